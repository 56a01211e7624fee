set_option maxRecDepth 100000
set_option maxHeartbeats 4000000 in
theorem m_bar {Γ : GG} {l : Launch} {o : Nat} {ad : Nat → Nat} (σ : MM) (a : Int) (b : Int) (v : Int) (ha : RR a) (hb : RR b) (hv : RR v) (hv : v = 0 ∨ v = 1) (hB : Bd σ) : Ct Γ (AM o ad) (RepM Γ o ad) l yX2_bar (ws_ yX2_bar cX2_bar 7 (some .boolean)) 4 0 0 [.ref o, IV a, IV b, IV v] σ (qI (fun (r : Int) (σ' : MM) => oEnd σ (t2 (isC a ∧ isC b) (sStreet a b ≠ -1)) (σ.2 1 (sStreet a b).toNat) (setA (σ0 σ) 1 (sStreet a b).toNat v) r σ')) X0 := by
  refine Ct.ofJ (own := RX2) (nm := "bar") (lo := [some (.ref o), some (IV a), some (IV b), some (IV v), none, none, none]) pn_X2 rfl rfl (List.forall_mem_cons.mpr ⟨rfl, (List.forall_mem_cons.mpr ⟨rfl, (List.forall_mem_cons.mpr ⟨rfl, (List.forall_mem_cons.mpr ⟨rfl, (fun _ h => nomatch h)⟩)⟩)⟩)⟩) (Nat.le_of_ble_eq_true rfl) rfl ?_
  have hQ : ∀ (r : Int) (σ' : MM), (oEnd σ (t2 (isC a ∧ isC b) (sStreet a b ≠ -1)) (σ.2 1 (sStreet a b).toNat) (setA (σ0 σ) 1 (sStreet a b).toNat v) r σ') → (qI (fun (r : Int) (σ' : MM) => oEnd σ (t2 (isC a ∧ isC b) (sStreet a b ≠ -1)) (σ.2 1 (sStreet a b).toNat) (setA (σ0 σ) 1 (sStreet a b).toNat v) r σ')) (some (IV r)) σ' := fun r σ' h => ⟨r, rfl, h⟩
  generalize (qI (fun (r : Int) (σ' : MM) => oEnd σ (t2 (isC a ∧ isC b) (sStreet a b ≠ -1)) (σ.2 1 (sStreet a b).toNat) (setA (σ0 σ) 1 (sStreet a b).toNat v) r σ')) = QP at hQ ⊢
  have n6 : 0 ≤ σ.1 6 ∧ σ.1 6 ≤ 5 := hB.1 6
  have n9 : 0 ≤ σ.1 9 ∧ σ.1 9 ≤ 20 := hB.1 9
  have n0 : 0 ≤ σ.1 0 ∧ σ.1 0 ≤ 2100 := hB.1 0
  have n14 : 0 ≤ σ.1 14 ∧ σ.1 14 ≤ 5 := hB.1 14
  have n26 : 0 ≤ σ.1 26 ∧ σ.1 26 ≤ 60 := hB.1 26
  refine j_iload_n (pc := 0) dX2_bar_0 rfl ?_
  refine j_callS (pc := 1) (m_isCrossing σ a (by omega)) (lw_S q1529 q1530 q48 q1531) md_yX2_isCrossing (by decide) (by decide) rfl (Nat.le_of_ble_eq_true rfl) dX2_bar_1 (qI.k (fun r_1 s_1 q_1 => ?_))
  obtain ⟨e1q_1, e2q_1⟩ := q_1
  subst r_1
  subst s_1
  refine j_ifb_eq (pc := 4) (tgt := 18) dX2_bar_4 (by decide) (fun c_4 => ?_) (fun c_4 => ?_)
  · refine j_iconst (pc := 18) dX2_bar_18 rfl ?_
    refine j_istore (pc := 19) dX2_bar_19 (by decide) (lo' := [some (.ref o), some (IV a), some (IV b), some (IV v), some (IV 0), none, none]) rfl ?_
    refine j_iload (pc := 21) dX2_bar_21 rfl ?_
    refine j_if_eq (pc := 23) (tgt := 34) dX2_bar_23 (by decide) (by decide) (fun c_23 => ?_) (fun c_23 => ?_)
    · refine j_iconst (pc := 34) dX2_bar_34 rfl ?_
      refine j_istore (pc := 35) dX2_bar_35 (by decide) (lo' := [some (.ref o), some (IV a), some (IV b), some (IV v), some (IV 0), some (IV (-1)), none]) rfl ?_
      refine j_aload_n (pc := 37) dX2_bar_37 rfl ?_
      refine j_iload (pc := 38) dX2_bar_38 rfl ?_
      refine j_iload (pc := 40) dX2_bar_40 rfl ?_
      refine j_iconst (pc := 42) dX2_bar_42 rfl ?_
      refine j_icmp_eq (pc := 43) (tgt := 50) dX2_bar_43 (by decide) (by decide) (by decide) (fun c_43 => ?_) (fun c_43 => ?_)
      · refine j_iconst (pc := 50) dX2_bar_50 rfl ?_
        refine j_callV (pc := 51) (m_asked2 σ 0 0 (Or.inl rfl) (Or.inl rfl)) (lw_V q1538 q1540 qs20 q48 q1541) rfl md_yX2_asked (RC.ofM _ rfl) (by decide) (by decide) rfl (Nat.le_of_ble_eq_true rfl) dX2_bar_51 (qI.k (fun r_51 s_51 q_51 => ?_))
        rcases q_51 with ⟨q_51a, rfl, rfl⟩ | ⟨q_51a, rfl, rfl⟩
        · exact absurd q_51a (by simp)
        · have q_51b := q_51a
          refine j_if_ne (pc := 54) (tgt := 59) dX2_bar_54 (by decide) (by decide) (fun c_54 => ?_) (fun c_54 => ?_)
          · exact absurd c_54 (by decide)
          · refine j_iconst (pc := 57) dX2_bar_57 rfl ?_
            refine j_zret (pc := 58) rfl (Or.inl rfl) (hQ _ _ ?_) dX2_bar_58
            exact Or.inr ⟨by unfold t2; (repeat' split) <;> omega, rfl, by congr 1; unfold t2; (repeat' split) <;> omega⟩
      · exact absurd c_43 (by decide)
    · exact absurd c_23 (by decide)
  · refine j_iload_n (pc := 7) dX2_bar_7 rfl ?_
    refine j_callS (pc := 8) (m_isCrossing σ b (by omega)) (lw_S q1529 q1530 q48 q1531) md_yX2_isCrossing (by decide) (by decide) rfl (Nat.le_of_ble_eq_true rfl) dX2_bar_8 (qI.k (fun r_8 s_8 q_8 => ?_))
    obtain ⟨e1q_8, e2q_8⟩ := q_8
    subst r_8
    subst s_8
    refine j_ifb_eq (pc := 11) (tgt := 18) dX2_bar_11 (by decide) (fun c_11 => ?_) (fun c_11 => ?_)
    · refine j_iconst (pc := 18) dX2_bar_18 rfl ?_
      refine j_istore (pc := 19) dX2_bar_19 (by decide) (lo' := [some (.ref o), some (IV a), some (IV b), some (IV v), some (IV 0), none, none]) rfl ?_
      refine j_iload (pc := 21) dX2_bar_21 rfl ?_
      refine j_if_eq (pc := 23) (tgt := 34) dX2_bar_23 (by decide) (by decide) (fun c_23_1 => ?_) (fun c_23_1 => ?_)
      · refine j_iconst (pc := 34) dX2_bar_34 rfl ?_
        refine j_istore (pc := 35) dX2_bar_35 (by decide) (lo' := [some (.ref o), some (IV a), some (IV b), some (IV v), some (IV 0), some (IV (-1)), none]) rfl ?_
        refine j_aload_n (pc := 37) dX2_bar_37 rfl ?_
        refine j_iload (pc := 38) dX2_bar_38 rfl ?_
        refine j_iload (pc := 40) dX2_bar_40 rfl ?_
        refine j_iconst (pc := 42) dX2_bar_42 rfl ?_
        refine j_icmp_eq (pc := 43) (tgt := 50) dX2_bar_43 (by decide) (by decide) (by decide) (fun c_43_1 => ?_) (fun c_43_1 => ?_)
        · refine j_iconst (pc := 50) dX2_bar_50 rfl ?_
          refine j_callV (pc := 51) (m_asked2 σ 0 0 (Or.inl rfl) (Or.inl rfl)) (lw_V q1538 q1540 qs20 q48 q1541) rfl md_yX2_asked (RC.ofM _ rfl) (by decide) (by decide) rfl (Nat.le_of_ble_eq_true rfl) dX2_bar_51 (qI.k (fun r_51_1 s_51_1 q_51_1 => ?_))
          rcases q_51_1 with ⟨q_51_1a, rfl, rfl⟩ | ⟨q_51_1a, rfl, rfl⟩
          · exact absurd q_51_1a (by simp)
          · have q_51_1b := q_51_1a
            refine j_if_ne (pc := 54) (tgt := 59) dX2_bar_54 (by decide) (by decide) (fun c_54_1 => ?_) (fun c_54_1 => ?_)
            · exact absurd c_54_1 (by decide)
            · refine j_iconst (pc := 57) dX2_bar_57 rfl ?_
              refine j_zret (pc := 58) rfl (Or.inl rfl) (hQ _ _ ?_) dX2_bar_58
              exact Or.inr ⟨by unfold t2; (repeat' split) <;> omega, rfl, by congr 1; unfold t2; (repeat' split) <;> omega⟩
        · exact absurd c_43_1 (by decide)
      · exact absurd c_23_1 (by decide)
    · refine j_iconst (pc := 14) dX2_bar_14 rfl ?_
      refine j_goto (pc := 15) (tgt := 19) dX2_bar_15 (by decide) ?_
      refine j_istore (pc := 19) dX2_bar_19 (by decide) (lo' := [some (.ref o), some (IV a), some (IV b), some (IV v), some (IV 1), none, none]) rfl ?_
      refine j_iload (pc := 21) dX2_bar_21 rfl ?_
      refine j_if_eq (pc := 23) (tgt := 34) dX2_bar_23 (by decide) (by decide) (fun c_23_1 => ?_) (fun c_23_1 => ?_)
      · exact absurd c_23_1 (by decide)
      · refine j_iload_n (pc := 26) dX2_bar_26 rfl ?_
        refine j_iload_n (pc := 27) dX2_bar_27 rfl ?_
        refine j_callS (pc := 28) (m_street σ a b (by omega) (by omega)) (lw_S q1535 q1536 q48 q1537) md_yX2_street (by decide) (by decide) rfl (Nat.le_of_ble_eq_true rfl) dX2_bar_28 (qI.k (fun r_28 s_28 q_28 => ?_))
        obtain ⟨e1q_28, e2q_28⟩ := q_28
        subst r_28
        subst s_28
        have rs_28 := sStreet_rng (a := a) (b := b) (by omega) (by omega)
        refine j_goto (pc := 31) (tgt := 35) dX2_bar_31 (by decide) ?_
        refine j_istore (pc := 35) dX2_bar_35 (by decide) (lo' := [some (.ref o), some (IV a), some (IV b), some (IV v), some (IV 1), some (IV (sStreet a b)), none]) rfl ?_
        refine j_aload_n (pc := 37) dX2_bar_37 rfl ?_
        refine j_iload (pc := 38) dX2_bar_38 rfl ?_
        refine j_iload (pc := 40) dX2_bar_40 rfl ?_
        refine j_iconst (pc := 42) dX2_bar_42 rfl ?_
        refine j_icmp_eq (pc := 43) (tgt := 50) dX2_bar_43 (by decide) (by omega) (by decide) (fun c_43_1 => ?_) (fun c_43_1 => ?_)
        · refine j_iconst (pc := 50) dX2_bar_50 rfl ?_
          refine j_callV (pc := 51) (m_asked2 σ 1 0 (Or.inr rfl) (Or.inl rfl)) (lw_V q1538 q1540 qs20 q48 q1541) rfl md_yX2_asked (RC.ofM _ rfl) (by decide) (by decide) rfl (Nat.le_of_ble_eq_true rfl) dX2_bar_51 (qI.k (fun r_51_1 s_51_1 q_51_1 => ?_))
          rcases q_51_1 with ⟨q_51_1a, rfl, rfl⟩ | ⟨q_51_1a, rfl, rfl⟩
          · exact absurd q_51_1a (by simp)
          · have q_51_1b := q_51_1a
            refine j_if_ne (pc := 54) (tgt := 59) dX2_bar_54 (by decide) (by decide) (fun c_54_1 => ?_) (fun c_54_1 => ?_)
            · exact absurd c_54_1 (by decide)
            · refine j_iconst (pc := 57) dX2_bar_57 rfl ?_
              refine j_zret (pc := 58) rfl (Or.inl rfl) (hQ _ _ ?_) dX2_bar_58
              exact Or.inr ⟨by unfold t2; (repeat' split) <;> omega, rfl, by congr 1; unfold t2; (repeat' split) <;> omega⟩
        · refine j_iconst (pc := 46) dX2_bar_46 rfl ?_
          refine j_goto (pc := 47) (tgt := 51) dX2_bar_47 (by decide) ?_
          refine j_callV (pc := 51) (m_asked2 σ 1 1 (Or.inr rfl) (Or.inr rfl)) (lw_V q1538 q1540 qs20 q48 q1541) rfl md_yX2_asked (RC.ofM _ rfl) (by decide) (by decide) rfl (Nat.le_of_ble_eq_true rfl) dX2_bar_51 (qI.k (fun r_51_1 s_51_1 q_51_1 => ?_))
          rcases q_51_1 with ⟨q_51_1a, rfl, rfl⟩ | ⟨q_51_1a, rfl, rfl⟩
          · have q_51_1b := q_51_1a
            refine j_if_ne (pc := 54) (tgt := 59) dX2_bar_54 (by decide) (by decide) (fun c_54_1 => ?_) (fun c_54_1 => ?_)
            · refine j_aload_n (pc := 59) dX2_bar_59 rfl ?_
              refine m_getA (pc := 60) fa_X2_7_X2 (by decide) (by decide) dX2_bar_60 ?_
              refine j_iload (pc := 63) dX2_bar_63 rfl ?_
              refine m_zld (pc := 65) (v := σ.2 1 (sStreet a b).toNat) (by decide) (by decide) rfl (by show 0 ≤ sStreet a b ∧ sStreet a b < ((72 : Nat) : Int); omega) rfl dX2_bar_65 ?_
              have n_1 : 0 ≤ σ.2 1 (sStreet a b).toNat ∧ σ.2 1 (sStreet a b).toNat ≤ 1 := hB.2 1 ((sStreet a b).toNat)
              refine j_istore (pc := 66) dX2_bar_66 (by decide) (lo' := [some (.ref o), some (IV a), some (IV b), some (IV v), some (IV 1), some (IV (sStreet a b)), some (IV (σ.2 1 (sStreet a b).toNat))]) rfl ?_
              refine j_aload_n (pc := 68) dX2_bar_68 rfl ?_
              refine m_getA (pc := 69) fa_X2_7_X2 (by decide) (by decide) dX2_bar_69 ?_
              refine j_iload (pc := 72) dX2_bar_72 rfl ?_
              refine j_iload_n (pc := 74) dX2_bar_74 rfl ?_
              refine m_zst (pc := 75) (by decide) (by decide) rfl (by show 0 ≤ sStreet a b ∧ sStreet a b < ((72 : Nat) : Int); omega) (by omega) dX2_bar_75 ?_
              refine j_iload (pc := 76) dX2_bar_76 rfl ?_
              refine j_zret (pc := 78) rfl (by omega) (hQ _ _ ?_) dX2_bar_78
              exact Or.inl ⟨by unfold t2; (repeat' split) <;> omega, rfl, rfl⟩
            · exact absurd c_54_1 (by decide)
          · exact absurd (by simp) q_51_1a

theorem md_yX2_finds : MD yX2_finds 1 := by decide +kernel
set_option maxHeartbeats 4000000 in
theorem m_way {Γ : GG} {l : Launch} {o : Nat} {ad : Nat → Nat} (σ : MM) (a : Int) (b : Int) (ha : RR a) (hb : RR b) (hB : Bd σ) : Ct Γ (AM o ad) (RepM Γ o ad) l yX2_way (ws_ yX2_way cX2_way 3 (some .int)) 4 0 0 [.ref o, IV a, IV b] σ (qI (fun (r : Int) (σ' : MM) => oEnd σ (t1 (isC a ∧ isC b)) ((sFinds (σ0 σ) a).2 2 b.toNat) (sFinds (σ0 σ) a) r σ')) X0 := by
  refine Ct.ofJ (own := RX2) (nm := "way") (lo := [some (.ref o), some (IV a), some (IV b)]) pn_X2 rfl rfl (List.forall_mem_cons.mpr ⟨rfl, (List.forall_mem_cons.mpr ⟨rfl, (List.forall_mem_cons.mpr ⟨rfl, (fun _ h => nomatch h)⟩)⟩)⟩) (Nat.le_of_ble_eq_true rfl) rfl ?_
  have hQ : ∀ (r : Int) (σ' : MM), (oEnd σ (t1 (isC a ∧ isC b)) ((sFinds (σ0 σ) a).2 2 b.toNat) (sFinds (σ0 σ) a) r σ') → (qI (fun (r : Int) (σ' : MM) => oEnd σ (t1 (isC a ∧ isC b)) ((sFinds (σ0 σ) a).2 2 b.toNat) (sFinds (σ0 σ) a) r σ')) (some (IV r)) σ' := fun r σ' h => ⟨r, rfl, h⟩
  generalize (qI (fun (r : Int) (σ' : MM) => oEnd σ (t1 (isC a ∧ isC b)) ((sFinds (σ0 σ) a).2 2 b.toNat) (sFinds (σ0 σ) a) r σ')) = QP at hQ ⊢
  have n6 : 0 ≤ σ.1 6 ∧ σ.1 6 ≤ 5 := hB.1 6
  have n9 : 0 ≤ σ.1 9 ∧ σ.1 9 ≤ 20 := hB.1 9
  have n0 : 0 ≤ σ.1 0 ∧ σ.1 0 ≤ 2100 := hB.1 0
  have n14 : 0 ≤ σ.1 14 ∧ σ.1 14 ≤ 5 := hB.1 14
  have n26 : 0 ≤ σ.1 26 ∧ σ.1 26 ≤ 60 := hB.1 26
  refine j_aload_n (pc := 0) dX2_way_0 rfl ?_
  refine j_iload_n (pc := 1) dX2_way_1 rfl ?_
  refine j_callS (pc := 2) (m_isCrossing σ a (by omega)) (lw_S q1529 q1530 q48 q1531) md_yX2_isCrossing (by decide) (by decide) rfl (Nat.le_of_ble_eq_true rfl) dX2_way_2 (qI.k (fun r_2 s_2 q_2 => ?_))
  obtain ⟨e1q_2, e2q_2⟩ := q_2
  subst r_2
  subst s_2
  refine j_ifb_eq (pc := 5) (tgt := 19) dX2_way_5 (by decide) (fun c_5 => ?_) (fun c_5 => ?_)
  · refine j_iconst (pc := 19) dX2_way_19 rfl ?_
    refine j_callV (pc := 20) (m_asked1 σ 0 (Or.inl rfl)) (lw_V q1546 q1548 qs21 q48 q1549) rfl md_yX2_asked_2 (RC.ofM _ rfl) (by decide) (by decide) rfl (Nat.le_of_ble_eq_true rfl) dX2_way_20 (qI.k (fun r_20 s_20 q_20 => ?_))
    rcases q_20 with ⟨q_20a, rfl, rfl⟩ | ⟨q_20a, rfl, rfl⟩
    · exact absurd q_20a (by decide)
    · have q_20b := q_20a
      refine j_if_ne (pc := 23) (tgt := 28) dX2_way_23 (by decide) (by decide) (fun c_23 => ?_) (fun c_23 => ?_)
      · exact absurd c_23 (by decide)
      · refine j_iconst (pc := 26) dX2_way_26 rfl ?_
        refine j_iret (pc := 27) rfl (hQ _ _ ?_) dX2_way_27
        exact Or.inr ⟨by unfold t1; (repeat' split) <;> omega, rfl, by congr 1; unfold t1; (repeat' split) <;> omega⟩
  · refine j_iload_n (pc := 8) dX2_way_8 rfl ?_
    refine j_callS (pc := 9) (m_isCrossing σ b (by omega)) (lw_S q1529 q1530 q48 q1531) md_yX2_isCrossing (by decide) (by decide) rfl (Nat.le_of_ble_eq_true rfl) dX2_way_9 (qI.k (fun r_9 s_9 q_9 => ?_))
    obtain ⟨e1q_9, e2q_9⟩ := q_9
    subst r_9
    subst s_9
    refine j_ifb_eq (pc := 12) (tgt := 19) dX2_way_12 (by decide) (fun c_12 => ?_) (fun c_12 => ?_)
    · refine j_iconst (pc := 19) dX2_way_19 rfl ?_
      refine j_callV (pc := 20) (m_asked1 σ 0 (Or.inl rfl)) (lw_V q1546 q1548 qs21 q48 q1549) rfl md_yX2_asked_2 (RC.ofM _ rfl) (by decide) (by decide) rfl (Nat.le_of_ble_eq_true rfl) dX2_way_20 (qI.k (fun r_20_1 s_20_1 q_20_1 => ?_))
      rcases q_20_1 with ⟨q_20_1a, rfl, rfl⟩ | ⟨q_20_1a, rfl, rfl⟩
      · exact absurd q_20_1a (by decide)
      · have q_20_1b := q_20_1a
        refine j_if_ne (pc := 23) (tgt := 28) dX2_way_23 (by decide) (by decide) (fun c_23_1 => ?_) (fun c_23_1 => ?_)
        · exact absurd c_23_1 (by decide)
        · refine j_iconst (pc := 26) dX2_way_26 rfl ?_
          refine j_iret (pc := 27) rfl (hQ _ _ ?_) dX2_way_27
          exact Or.inr ⟨by unfold t1; (repeat' split) <;> omega, rfl, by congr 1; unfold t1; (repeat' split) <;> omega⟩
    · refine j_iconst (pc := 15) dX2_way_15 rfl ?_
      refine j_goto (pc := 16) (tgt := 20) dX2_way_16 (by decide) ?_
      refine j_callV (pc := 20) (m_asked1 σ 1 (Or.inr rfl)) (lw_V q1546 q1548 qs21 q48 q1549) rfl md_yX2_asked_2 (RC.ofM _ rfl) (by decide) (by decide) rfl (Nat.le_of_ble_eq_true rfl) dX2_way_20 (qI.k (fun r_20_1 s_20_1 q_20_1 => ?_))
      rcases q_20_1 with ⟨q_20_1a, rfl, rfl⟩ | ⟨q_20_1a, rfl, rfl⟩
      · have q_20_1b := q_20_1a
        refine j_if_ne (pc := 23) (tgt := 28) dX2_way_23 (by decide) (by decide) (fun c_23_1 => ?_) (fun c_23_1 => ?_)
        · refine j_aload_n (pc := 28) dX2_way_28 rfl ?_
          refine j_iload_n (pc := 29) dX2_way_29 rfl ?_
          refine j_callV (pc := 30) (m_finds (setI σ 43 0) a (by omega) (Bd.i hB (by show 0 ≤ 0 ∧ 0 ≤ (3 : Int); omega))) (lw_V q1550 q1552 qs22 q48 q1553) rfl md_yX2_finds (RC.ofM _ rfl) (by decide) (by decide) rfl (Nat.le_of_ble_eq_true rfl) dX2_way_30 (qV.k (fun s_30 q_30 => ?_))
          obtain ⟨eq_30, bq_30⟩ := q_30
          subst s_30
          refine j_aload_n (pc := 33) dX2_way_33 rfl ?_
          refine m_getA (pc := 34) fa_X2_13_X2 (by decide) (by decide) dX2_way_34 ?_
          refine j_iload_n (pc := 37) dX2_way_37 rfl ?_
          refine m_ld (pc := 38) (v := (sFinds (setI σ 43 0) a).2 2 (b).toNat) (by decide) (by decide) rfl (by show 0 ≤ b ∧ b < ((36 : Nat) : Int); omega) rfl dX2_way_38 ?_
          refine j_iret (pc := 39) rfl (hQ _ _ ?_) dX2_way_39
          exact Or.inl ⟨by unfold t1; (repeat' split) <;> omega, rfl, rfl⟩
        · exact absurd c_23_1 (by decide)
      · exact absurd q_20_1a (by decide)

theorem md_yX2_clears : MD yX2_clears 0 := by decide +kernel
theorem fp_X2_41_X2 : FP RX2 41 1 14 (.int) false := ⟨RX2, TX2, 44, "BallotFoundryModel", tyX2, rfl, in_X2, by decide, q1402, Or.inl rfl, tyX2_ok, nmX2, rfl, rfl, fun h => nomatch h⟩
theorem fp_X2_181_X2 : FP RX2 181 1 15 (.int) false := ⟨RX2, TX2, 44, "BallotFoundryModel", tyX2, rfl, in_X2, by decide, q1403, Or.inl rfl, tyX2_ok, nmX2, rfl, rfl, fun h => nomatch h⟩
theorem fp_X2_184_X2 : FP RX2 184 1 16 (.int) false := ⟨RX2, TX2, 44, "BallotFoundryModel", tyX2, rfl, in_X2, by decide, q1404, Or.inl rfl, tyX2_ok, nmX2, rfl, rfl, fun h => nomatch h⟩
theorem fp_X2_187_X2 : FP RX2 187 1 17 (.boolean) false := ⟨RX2, TX2, 44, "BallotFoundryModel", tyX2, rfl, in_X2, by decide, q1405, Or.inl rfl, tyX2_ok, nmX2, rfl, rfl, fun h => nomatch h⟩
theorem fa_X2_181_X2 : FA RX2 181 1 15 := ⟨RX2, TX2, 44, "BallotFoundryModel", rfl, in_X2, by decide, q1403, Or.inl rfl⟩
set_option maxHeartbeats 4000000 in
theorem m_call {Γ : GG} {l : Launch} {o : Nat} {ad : Nat → Nat} (σ : MM) (a : Int) (m : Int) (v : Int) (ha : RR a) (hm : RR m) (hv : RR v) (hv : v = 0 ∨ v = 1) (hB : Bd σ) : Ct Γ (AM o ad) (RepM Γ o ad) l yX2_call (ws_ yX2_call cX2_call 5 (some .int)) 4 0 0 [.ref o, IV a, IV m, IV v] σ (qI (fun (r : Int) (σ' : MM) => oEnd σ (t2 ((8 ≤ a ∧ a ≤ 100) ∧ 0 ≤ m ∧ m ≤ 30) ((σ.1 14 = 0 ∨ σ.1 14 = 5) ∧ 0 < σ.1 6 ∧ σ.1 0 + a ≤ 2000)) (σ.1 0 + a) (setI (setI (setI (setI (sClears (σ0 σ)) 14 1) 15 (σ.1 0 + a)) 16 m) 17 v) r σ')) X0 := by
  refine Ct.ofJ (own := RX2) (nm := "call") (lo := [some (.ref o), some (IV a), some (IV m), some (IV v), none]) pn_X2 rfl rfl (List.forall_mem_cons.mpr ⟨rfl, (List.forall_mem_cons.mpr ⟨rfl, (List.forall_mem_cons.mpr ⟨rfl, (List.forall_mem_cons.mpr ⟨rfl, (fun _ h => nomatch h)⟩)⟩)⟩)⟩) (Nat.le_of_ble_eq_true rfl) rfl ?_
  have hQ : ∀ (r : Int) (σ' : MM), (oEnd σ (t2 ((8 ≤ a ∧ a ≤ 100) ∧ 0 ≤ m ∧ m ≤ 30) ((σ.1 14 = 0 ∨ σ.1 14 = 5) ∧ 0 < σ.1 6 ∧ σ.1 0 + a ≤ 2000)) (σ.1 0 + a) (setI (setI (setI (setI (sClears (σ0 σ)) 14 1) 15 (σ.1 0 + a)) 16 m) 17 v) r σ') → (qI (fun (r : Int) (σ' : MM) => oEnd σ (t2 ((8 ≤ a ∧ a ≤ 100) ∧ 0 ≤ m ∧ m ≤ 30) ((σ.1 14 = 0 ∨ σ.1 14 = 5) ∧ 0 < σ.1 6 ∧ σ.1 0 + a ≤ 2000)) (σ.1 0 + a) (setI (setI (setI (setI (sClears (σ0 σ)) 14 1) 15 (σ.1 0 + a)) 16 m) 17 v) r σ')) (some (IV r)) σ' := fun r σ' h => ⟨r, rfl, h⟩
  generalize (qI (fun (r : Int) (σ' : MM) => oEnd σ (t2 ((8 ≤ a ∧ a ≤ 100) ∧ 0 ≤ m ∧ m ≤ 30) ((σ.1 14 = 0 ∨ σ.1 14 = 5) ∧ 0 < σ.1 6 ∧ σ.1 0 + a ≤ 2000)) (σ.1 0 + a) (setI (setI (setI (setI (sClears (σ0 σ)) 14 1) 15 (σ.1 0 + a)) 16 m) 17 v) r σ')) = QP at hQ ⊢
  have n6 : 0 ≤ σ.1 6 ∧ σ.1 6 ≤ 5 := hB.1 6
  have n9 : 0 ≤ σ.1 9 ∧ σ.1 9 ≤ 20 := hB.1 9
  have n0 : 0 ≤ σ.1 0 ∧ σ.1 0 ≤ 2100 := hB.1 0
  have n14 : 0 ≤ σ.1 14 ∧ σ.1 14 ≤ 5 := hB.1 14
  have n26 : 0 ≤ σ.1 26 ∧ σ.1 26 ≤ 60 := hB.1 26
  refine j_iload_n (pc := 0) dX2_call_0 rfl ?_
  refine j_bipush (pc := 1) (a := 8) dX2_call_1 (by decide) ?_
  refine j_bipush (pc := 3) (a := 100) dX2_call_3 (by decide) ?_
  refine j_callS (pc := 5) (m_in σ a 8 100 (by omega) (by decide) (by decide)) (lw_S q1532 q1533 q48 q1534) md_yX2_in (by decide) (by decide) rfl (Nat.le_of_ble_eq_true rfl) dX2_call_5 (qI.k (fun r_5 s_5 q_5 => ?_))
  obtain ⟨e1q_5, e2q_5⟩ := q_5
  subst r_5
  subst s_5
  refine j_ifb_eq (pc := 8) (tgt := 25) dX2_call_8 (by decide) (fun c_8 => ?_) (fun c_8 => ?_)
  · refine j_iconst (pc := 25) dX2_call_25 rfl ?_
    refine j_istore (pc := 26) dX2_call_26 (by decide) (lo' := [some (.ref o), some (IV a), some (IV m), some (IV v), some (IV 0)]) rfl ?_
    refine j_aload_n (pc := 28) dX2_call_28 rfl ?_
    refine j_iload (pc := 29) dX2_call_29 rfl ?_
    refine j_iload (pc := 31) dX2_call_31 rfl ?_
    refine j_if_eq (pc := 33) (tgt := 74) dX2_call_33 (by decide) (by decide) (fun c_33 => ?_) (fun c_33 => ?_)
    · refine j_iconst (pc := 74) dX2_call_74 rfl ?_
      refine j_callV (pc := 75) (m_asked2 σ 0 0 (Or.inl rfl) (Or.inl rfl)) (lw_V q1538 q1540 qs20 q48 q1541) rfl md_yX2_asked (RC.ofM _ rfl) (by decide) (by decide) rfl (Nat.le_of_ble_eq_true rfl) dX2_call_75 (qI.k (fun r_75 s_75 q_75 => ?_))
      rcases q_75 with ⟨q_75a, rfl, rfl⟩ | ⟨q_75a, rfl, rfl⟩
      · exact absurd q_75a (by simp)
      · have q_75b := q_75a
        refine j_if_ne (pc := 78) (tgt := 83) dX2_call_78 (by decide) (by decide) (fun c_78 => ?_) (fun c_78 => ?_)
        · exact absurd c_78 (by decide)
        · refine j_iconst (pc := 81) dX2_call_81 rfl ?_
          refine j_iret (pc := 82) rfl (hQ _ _ ?_) dX2_call_82
          exact Or.inr ⟨by unfold t2; (repeat' split) <;> omega, rfl, by congr 1; unfold t2; (repeat' split) <;> omega⟩
    · exact absurd c_33 (by decide)
  · refine j_iload_n (pc := 11) dX2_call_11 rfl ?_
    refine j_iconst (pc := 12) dX2_call_12 rfl ?_
    refine j_bipush (pc := 13) (a := 30) dX2_call_13 (by decide) ?_
    refine j_callS (pc := 15) (m_in σ m 0 30 (by omega) (by decide) (by decide)) (lw_S q1532 q1533 q48 q1534) md_yX2_in (by decide) (by decide) rfl (Nat.le_of_ble_eq_true rfl) dX2_call_15 (qI.k (fun r_15 s_15 q_15 => ?_))
    obtain ⟨e1q_15, e2q_15⟩ := q_15
    subst r_15
    subst s_15
    refine j_ifb_eq (pc := 18) (tgt := 25) dX2_call_18 (by decide) (fun c_18 => ?_) (fun c_18 => ?_)
    · refine j_iconst (pc := 25) dX2_call_25 rfl ?_
      refine j_istore (pc := 26) dX2_call_26 (by decide) (lo' := [some (.ref o), some (IV a), some (IV m), some (IV v), some (IV 0)]) rfl ?_
      refine j_aload_n (pc := 28) dX2_call_28 rfl ?_
      refine j_iload (pc := 29) dX2_call_29 rfl ?_
      refine j_iload (pc := 31) dX2_call_31 rfl ?_
      refine j_if_eq (pc := 33) (tgt := 74) dX2_call_33 (by decide) (by decide) (fun c_33_1 => ?_) (fun c_33_1 => ?_)
      · refine j_iconst (pc := 74) dX2_call_74 rfl ?_
        refine j_callV (pc := 75) (m_asked2 σ 0 0 (Or.inl rfl) (Or.inl rfl)) (lw_V q1538 q1540 qs20 q48 q1541) rfl md_yX2_asked (RC.ofM _ rfl) (by decide) (by decide) rfl (Nat.le_of_ble_eq_true rfl) dX2_call_75 (qI.k (fun r_75_1 s_75_1 q_75_1 => ?_))
        rcases q_75_1 with ⟨q_75_1a, rfl, rfl⟩ | ⟨q_75_1a, rfl, rfl⟩
        · exact absurd q_75_1a (by simp)
        · have q_75_1b := q_75_1a
          refine j_if_ne (pc := 78) (tgt := 83) dX2_call_78 (by decide) (by decide) (fun c_78_1 => ?_) (fun c_78_1 => ?_)
          · exact absurd c_78_1 (by decide)
          · refine j_iconst (pc := 81) dX2_call_81 rfl ?_
            refine j_iret (pc := 82) rfl (hQ _ _ ?_) dX2_call_82
            exact Or.inr ⟨by unfold t2; (repeat' split) <;> omega, rfl, by congr 1; unfold t2; (repeat' split) <;> omega⟩
      · exact absurd c_33_1 (by decide)
    · refine j_iconst (pc := 21) dX2_call_21 rfl ?_
      refine j_goto (pc := 22) (tgt := 26) dX2_call_22 (by decide) ?_
      refine j_istore (pc := 26) dX2_call_26 (by decide) (lo' := [some (.ref o), some (IV a), some (IV m), some (IV v), some (IV 1)]) rfl ?_
      refine j_aload_n (pc := 28) dX2_call_28 rfl ?_
      refine j_iload (pc := 29) dX2_call_29 rfl ?_
      refine j_iload (pc := 31) dX2_call_31 rfl ?_
      refine j_if_eq (pc := 33) (tgt := 74) dX2_call_33 (by decide) (by decide) (fun c_33_1 => ?_) (fun c_33_1 => ?_)
      · exact absurd c_33_1 (by decide)
      · refine j_aload_n (pc := 36) dX2_call_36 rfl ?_
        refine m_getI (pc := 37) (v := σ.1 14) fa_X2_41_X2 (by decide) rfl rfl dX2_call_37 ?_
        have n_1 : 0 ≤ σ.1 14 ∧ σ.1 14 ≤ 5 := hB.1 14
        refine j_if_eq (pc := 40) (tgt := 51) dX2_call_40 (by decide) (by omega) (fun c_40 => ?_) (fun c_40 => ?_)
        · refine j_aload_n (pc := 51) dX2_call_51 rfl ?_
          refine m_getI (pc := 52) (v := σ.1 6) fa_X2_115_X2 (by decide) rfl rfl dX2_call_52 ?_
          have n_2 : 0 ≤ σ.1 6 ∧ σ.1 6 ≤ 5 := hB.1 6
          refine j_if_le (pc := 55) (tgt := 74) dX2_call_55 (by decide) (by omega) (fun c_55 => ?_) (fun c_55 => ?_)
          · refine j_iconst (pc := 74) dX2_call_74 rfl ?_
            refine j_callV (pc := 75) (m_asked2 σ 1 0 (Or.inr rfl) (Or.inl rfl)) (lw_V q1538 q1540 qs20 q48 q1541) rfl md_yX2_asked (RC.ofM _ rfl) (by decide) (by decide) rfl (Nat.le_of_ble_eq_true rfl) dX2_call_75 (qI.k (fun r_75_1 s_75_1 q_75_1 => ?_))
            rcases q_75_1 with ⟨q_75_1a, rfl, rfl⟩ | ⟨q_75_1a, rfl, rfl⟩
            · exact absurd q_75_1a (by simp)
            · have q_75_1b := q_75_1a
              refine j_if_ne (pc := 78) (tgt := 83) dX2_call_78 (by decide) (by decide) (fun c_78_1 => ?_) (fun c_78_1 => ?_)
              · exact absurd c_78_1 (by decide)
              · refine j_iconst (pc := 81) dX2_call_81 rfl ?_
                refine j_iret (pc := 82) rfl (hQ _ _ ?_) dX2_call_82
                exact Or.inr ⟨by unfold t2; (repeat' split) <;> omega, rfl, by congr 1; unfold t2; (repeat' split) <;> omega⟩
          · refine j_aload_n (pc := 58) dX2_call_58 rfl ?_
            refine m_getI (pc := 59) (v := σ.1 0) fa_X2_149_X2 (by decide) rfl rfl dX2_call_59 ?_
            have n_3 : 0 ≤ σ.1 0 ∧ σ.1 0 ≤ 2100 := hB.1 0
            refine j_iload_n (pc := 62) dX2_call_62 rfl ?_
            refine j_iadd (pc := 63) dX2_call_63 ?_
            refine j_sipush (pc := 64) (a := 2000) dX2_call_64 (by decide) ?_
            refine j_icmp_gt (pc := 67) (tgt := 74) dX2_call_67 (by decide) (by omega) (by decide) (fun c_67 => ?_) (fun c_67 => ?_)
            · refine j_iconst (pc := 74) dX2_call_74 rfl ?_
              refine j_callV (pc := 75) (m_asked2 σ 1 0 (Or.inr rfl) (Or.inl rfl)) (lw_V q1538 q1540 qs20 q48 q1541) rfl md_yX2_asked (RC.ofM _ rfl) (by decide) (by decide) rfl (Nat.le_of_ble_eq_true rfl) dX2_call_75 (qI.k (fun r_75_1 s_75_1 q_75_1 => ?_))
              rcases q_75_1 with ⟨q_75_1a, rfl, rfl⟩ | ⟨q_75_1a, rfl, rfl⟩
              · exact absurd q_75_1a (by simp)
              · have q_75_1b := q_75_1a
                refine j_if_ne (pc := 78) (tgt := 83) dX2_call_78 (by decide) (by decide) (fun c_78_1 => ?_) (fun c_78_1 => ?_)
                · exact absurd c_78_1 (by decide)
                · refine j_iconst (pc := 81) dX2_call_81 rfl ?_
                  refine j_iret (pc := 82) rfl (hQ _ _ ?_) dX2_call_82
                  exact Or.inr ⟨by unfold t2; (repeat' split) <;> omega, rfl, by congr 1; unfold t2; (repeat' split) <;> omega⟩
            · refine j_iconst (pc := 70) dX2_call_70 rfl ?_
              refine j_goto (pc := 71) (tgt := 75) dX2_call_71 (by decide) ?_
              refine j_callV (pc := 75) (m_asked2 σ 1 1 (Or.inr rfl) (Or.inr rfl)) (lw_V q1538 q1540 qs20 q48 q1541) rfl md_yX2_asked (RC.ofM _ rfl) (by decide) (by decide) rfl (Nat.le_of_ble_eq_true rfl) dX2_call_75 (qI.k (fun r_75_1 s_75_1 q_75_1 => ?_))
              rcases q_75_1 with ⟨q_75_1a, rfl, rfl⟩ | ⟨q_75_1a, rfl, rfl⟩
              · have q_75_1b := q_75_1a
                refine j_if_ne (pc := 78) (tgt := 83) dX2_call_78 (by decide) (by decide) (fun c_78_1 => ?_) (fun c_78_1 => ?_)
                · refine j_aload_n (pc := 83) dX2_call_83 rfl ?_
                  refine j_callV (pc := 84) (m_clears (setI σ 43 0)  (Bd.i hB (by show 0 ≤ 0 ∧ 0 ≤ (3 : Int); omega))) (lw_V q1384 q1386 qs19 q48 q1387) rfl md_yX2_clears (RC.ofM _ rfl) (by decide) (by decide) rfl (Nat.le_of_ble_eq_true rfl) dX2_call_84 (qV.k (fun s_84 q_84 => ?_))
                  obtain rfl := q_84
                  refine j_aload_n (pc := 87) dX2_call_87 rfl ?_
                  refine j_iconst (pc := 88) dX2_call_88 rfl ?_
                  refine m_putI (pc := 89) fp_X2_41_X2 (by decide) rfl dX2_call_89 ?_
                  refine j_aload_n (pc := 92) dX2_call_92 rfl ?_
                  refine j_aload_n (pc := 93) dX2_call_93 rfl ?_
                  refine m_getI (pc := 94) (v := σ.1 0) fa_X2_149_X2 (by decide) rfl rfl dX2_call_94 ?_
                  refine j_iload_n (pc := 97) dX2_call_97 rfl ?_
                  refine j_iadd (pc := 98) dX2_call_98 ?_
                  refine m_putI (pc := 99) fp_X2_181_X2 (by decide) rfl dX2_call_99 ?_
                  refine j_aload_n (pc := 102) dX2_call_102 rfl ?_
                  refine j_iload_n (pc := 103) dX2_call_103 rfl ?_
                  refine m_putI (pc := 104) fp_X2_184_X2 (by decide) rfl dX2_call_104 ?_
                  refine j_aload_n (pc := 107) dX2_call_107 rfl ?_
                  refine j_iload_n (pc := 108) dX2_call_108 rfl ?_
                  refine m_putZ (pc := 109) fp_X2_187_X2 (by decide) rfl (by omega) dX2_call_109 ?_
                  refine j_aload_n (pc := 112) dX2_call_112 rfl ?_
                  refine m_getI (pc := 113) (v := (σ.1 0) + a) fa_X2_181_X2 (by decide) rfl rfl dX2_call_113 ?_
                  refine j_iret (pc := 116) rfl (hQ _ _ ?_) dX2_call_116
                  exact Or.inl ⟨by unfold t2; (repeat' split) <;> omega, rfl, rfl⟩
                · exact absurd c_78_1 (by decide)
              · exact absurd (by simp) q_75_1a
        · refine j_aload_n (pc := 43) dX2_call_43 rfl ?_
          refine m_getI (pc := 44) (v := σ.1 14) fa_X2_41_X2 (by decide) rfl rfl dX2_call_44 ?_
          refine j_iconst (pc := 47) dX2_call_47 rfl ?_
          refine j_icmp_ne (pc := 48) (tgt := 74) dX2_call_48 (by decide) (by omega) (by decide) (fun c_48 => ?_) (fun c_48 => ?_)
          · refine j_iconst (pc := 74) dX2_call_74 rfl ?_
            refine j_callV (pc := 75) (m_asked2 σ 1 0 (Or.inr rfl) (Or.inl rfl)) (lw_V q1538 q1540 qs20 q48 q1541) rfl md_yX2_asked (RC.ofM _ rfl) (by decide) (by decide) rfl (Nat.le_of_ble_eq_true rfl) dX2_call_75 (qI.k (fun r_75_1 s_75_1 q_75_1 => ?_))
            rcases q_75_1 with ⟨q_75_1a, rfl, rfl⟩ | ⟨q_75_1a, rfl, rfl⟩
            · exact absurd q_75_1a (by simp)
            · have q_75_1b := q_75_1a
              refine j_if_ne (pc := 78) (tgt := 83) dX2_call_78 (by decide) (by decide) (fun c_78_1 => ?_) (fun c_78_1 => ?_)
              · exact absurd c_78_1 (by decide)
              · refine j_iconst (pc := 81) dX2_call_81 rfl ?_
                refine j_iret (pc := 82) rfl (hQ _ _ ?_) dX2_call_82
                exact Or.inr ⟨by unfold t2; (repeat' split) <;> omega, rfl, by congr 1; unfold t2; (repeat' split) <;> omega⟩
          · refine j_aload_n (pc := 51) dX2_call_51 rfl ?_
            refine m_getI (pc := 52) (v := σ.1 6) fa_X2_115_X2 (by decide) rfl rfl dX2_call_52 ?_
            have n_4 : 0 ≤ σ.1 6 ∧ σ.1 6 ≤ 5 := hB.1 6
            refine j_if_le (pc := 55) (tgt := 74) dX2_call_55 (by decide) (by omega) (fun c_55_1 => ?_) (fun c_55_1 => ?_)
            · refine j_iconst (pc := 74) dX2_call_74 rfl ?_
              refine j_callV (pc := 75) (m_asked2 σ 1 0 (Or.inr rfl) (Or.inl rfl)) (lw_V q1538 q1540 qs20 q48 q1541) rfl md_yX2_asked (RC.ofM _ rfl) (by decide) (by decide) rfl (Nat.le_of_ble_eq_true rfl) dX2_call_75 (qI.k (fun r_75_1 s_75_1 q_75_1 => ?_))
              rcases q_75_1 with ⟨q_75_1a, rfl, rfl⟩ | ⟨q_75_1a, rfl, rfl⟩
              · exact absurd q_75_1a (by simp)
              · have q_75_1b := q_75_1a
                refine j_if_ne (pc := 78) (tgt := 83) dX2_call_78 (by decide) (by decide) (fun c_78_1 => ?_) (fun c_78_1 => ?_)
                · exact absurd c_78_1 (by decide)
                · refine j_iconst (pc := 81) dX2_call_81 rfl ?_
                  refine j_iret (pc := 82) rfl (hQ _ _ ?_) dX2_call_82
                  exact Or.inr ⟨by unfold t2; (repeat' split) <;> omega, rfl, by congr 1; unfold t2; (repeat' split) <;> omega⟩
            · refine j_aload_n (pc := 58) dX2_call_58 rfl ?_
              refine m_getI (pc := 59) (v := σ.1 0) fa_X2_149_X2 (by decide) rfl rfl dX2_call_59 ?_
              have n_5 : 0 ≤ σ.1 0 ∧ σ.1 0 ≤ 2100 := hB.1 0
              refine j_iload_n (pc := 62) dX2_call_62 rfl ?_
              refine j_iadd (pc := 63) dX2_call_63 ?_
              refine j_sipush (pc := 64) (a := 2000) dX2_call_64 (by decide) ?_
              refine j_icmp_gt (pc := 67) (tgt := 74) dX2_call_67 (by decide) (by omega) (by decide) (fun c_67_1 => ?_) (fun c_67_1 => ?_)
              · refine j_iconst (pc := 74) dX2_call_74 rfl ?_
                refine j_callV (pc := 75) (m_asked2 σ 1 0 (Or.inr rfl) (Or.inl rfl)) (lw_V q1538 q1540 qs20 q48 q1541) rfl md_yX2_asked (RC.ofM _ rfl) (by decide) (by decide) rfl (Nat.le_of_ble_eq_true rfl) dX2_call_75 (qI.k (fun r_75_1 s_75_1 q_75_1 => ?_))
                rcases q_75_1 with ⟨q_75_1a, rfl, rfl⟩ | ⟨q_75_1a, rfl, rfl⟩
                · exact absurd q_75_1a (by simp)
                · have q_75_1b := q_75_1a
                  refine j_if_ne (pc := 78) (tgt := 83) dX2_call_78 (by decide) (by decide) (fun c_78_1 => ?_) (fun c_78_1 => ?_)
                  · exact absurd c_78_1 (by decide)
                  · refine j_iconst (pc := 81) dX2_call_81 rfl ?_
                    refine j_iret (pc := 82) rfl (hQ _ _ ?_) dX2_call_82
                    exact Or.inr ⟨by unfold t2; (repeat' split) <;> omega, rfl, by congr 1; unfold t2; (repeat' split) <;> omega⟩
              · refine j_iconst (pc := 70) dX2_call_70 rfl ?_
                refine j_goto (pc := 71) (tgt := 75) dX2_call_71 (by decide) ?_
                refine j_callV (pc := 75) (m_asked2 σ 1 1 (Or.inr rfl) (Or.inr rfl)) (lw_V q1538 q1540 qs20 q48 q1541) rfl md_yX2_asked (RC.ofM _ rfl) (by decide) (by decide) rfl (Nat.le_of_ble_eq_true rfl) dX2_call_75 (qI.k (fun r_75_1 s_75_1 q_75_1 => ?_))
                rcases q_75_1 with ⟨q_75_1a, rfl, rfl⟩ | ⟨q_75_1a, rfl, rfl⟩
                · have q_75_1b := q_75_1a
                  refine j_if_ne (pc := 78) (tgt := 83) dX2_call_78 (by decide) (by decide) (fun c_78_1 => ?_) (fun c_78_1 => ?_)
                  · refine j_aload_n (pc := 83) dX2_call_83 rfl ?_
                    refine j_callV (pc := 84) (m_clears (setI σ 43 0)  (Bd.i hB (by show 0 ≤ 0 ∧ 0 ≤ (3 : Int); omega))) (lw_V q1384 q1386 qs19 q48 q1387) rfl md_yX2_clears (RC.ofM _ rfl) (by decide) (by decide) rfl (Nat.le_of_ble_eq_true rfl) dX2_call_84 (qV.k (fun s_84_1 q_84_1 => ?_))
                    obtain rfl := q_84_1
                    refine j_aload_n (pc := 87) dX2_call_87 rfl ?_
                    refine j_iconst (pc := 88) dX2_call_88 rfl ?_
                    refine m_putI (pc := 89) fp_X2_41_X2 (by decide) rfl dX2_call_89 ?_
                    refine j_aload_n (pc := 92) dX2_call_92 rfl ?_
                    refine j_aload_n (pc := 93) dX2_call_93 rfl ?_
                    refine m_getI (pc := 94) (v := σ.1 0) fa_X2_149_X2 (by decide) rfl rfl dX2_call_94 ?_
                    refine j_iload_n (pc := 97) dX2_call_97 rfl ?_
                    refine j_iadd (pc := 98) dX2_call_98 ?_
                    refine m_putI (pc := 99) fp_X2_181_X2 (by decide) rfl dX2_call_99 ?_
                    refine j_aload_n (pc := 102) dX2_call_102 rfl ?_
                    refine j_iload_n (pc := 103) dX2_call_103 rfl ?_
                    refine m_putI (pc := 104) fp_X2_184_X2 (by decide) rfl dX2_call_104 ?_
                    refine j_aload_n (pc := 107) dX2_call_107 rfl ?_
                    refine j_iload_n (pc := 108) dX2_call_108 rfl ?_
                    refine m_putZ (pc := 109) fp_X2_187_X2 (by decide) rfl (by omega) dX2_call_109 ?_
                    refine j_aload_n (pc := 112) dX2_call_112 rfl ?_
                    refine m_getI (pc := 113) (v := (σ.1 0) + a) fa_X2_181_X2 (by decide) rfl rfl dX2_call_113 ?_
                    refine j_iret (pc := 116) rfl (hQ _ _ ?_) dX2_call_116
                    exact Or.inl ⟨by unfold t2; (repeat' split) <;> omega, rfl, rfl⟩
                  · exact absurd c_78_1 (by decide)
                · exact absurd (by simp) q_75_1a

theorem md_yX2_canVote : MD yX2_canVote 1 := by decide +kernel
theorem fa_X2_60_X2 : FA RX2 60 1 24 := ⟨RX2, TX2, 44, "BallotFoundryModel", rfl, in_X2, by decide, q1412, Or.inl rfl⟩
set_option maxHeartbeats 4000000 in
theorem m_early {Γ : GG} {l : Launch} {o : Nat} {ad : Nat → Nat} (σ : MM) (p : Int) (v : Int) (hp : RR p) (hv : RR v) (hn : σ.1 42 < 900) (hB : Bd σ) : Ct Γ (AM o ad) (RepM Γ o ad) l yX2_early (ws_ yX2_early cX2_early 4 (some .int)) 4 0 0 [.ref o, IV p, IV v] σ (qI (fun (r : Int) (σ' : MM) => oEnd σ (t3 (isP σ p) (0 ≤ v ∧ v ≤ 5) (σ.1 14 = 2 ∧ (σ.2 20 p.toNat ≠ -1 ∧ σ.2 8 p.toNat = 0) ∧ σ.1 26 < 60)) (σ.1 26) (sNote (setI (setA (setA (setA (sVoids (σ0 σ) p) 23 (σ.1 26).toNat p) 24 (σ.1 26).toNat v) 25 (σ.1 26).toNat 0) 26 (σ.1 26 + 1)) (σ.1 0) 101 p) r σ')) X0 := by
  refine Ct.ofJ (own := RX2) (nm := "early") (lo := [some (.ref o), some (IV p), some (IV v), none]) pn_X2 rfl rfl (List.forall_mem_cons.mpr ⟨rfl, (List.forall_mem_cons.mpr ⟨rfl, (List.forall_mem_cons.mpr ⟨rfl, (fun _ h => nomatch h)⟩)⟩)⟩) (Nat.le_of_ble_eq_true rfl) rfl ?_
  have hQ : ∀ (r : Int) (σ' : MM), (oEnd σ (t3 (isP σ p) (0 ≤ v ∧ v ≤ 5) (σ.1 14 = 2 ∧ (σ.2 20 p.toNat ≠ -1 ∧ σ.2 8 p.toNat = 0) ∧ σ.1 26 < 60)) (σ.1 26) (sNote (setI (setA (setA (setA (sVoids (σ0 σ) p) 23 (σ.1 26).toNat p) 24 (σ.1 26).toNat v) 25 (σ.1 26).toNat 0) 26 (σ.1 26 + 1)) (σ.1 0) 101 p) r σ') → (qI (fun (r : Int) (σ' : MM) => oEnd σ (t3 (isP σ p) (0 ≤ v ∧ v ≤ 5) (σ.1 14 = 2 ∧ (σ.2 20 p.toNat ≠ -1 ∧ σ.2 8 p.toNat = 0) ∧ σ.1 26 < 60)) (σ.1 26) (sNote (setI (setA (setA (setA (sVoids (σ0 σ) p) 23 (σ.1 26).toNat p) 24 (σ.1 26).toNat v) 25 (σ.1 26).toNat 0) 26 (σ.1 26 + 1)) (σ.1 0) 101 p) r σ')) (some (IV r)) σ' := fun r σ' h => ⟨r, rfl, h⟩
  generalize (qI (fun (r : Int) (σ' : MM) => oEnd σ (t3 (isP σ p) (0 ≤ v ∧ v ≤ 5) (σ.1 14 = 2 ∧ (σ.2 20 p.toNat ≠ -1 ∧ σ.2 8 p.toNat = 0) ∧ σ.1 26 < 60)) (σ.1 26) (sNote (setI (setA (setA (setA (sVoids (σ0 σ) p) 23 (σ.1 26).toNat p) 24 (σ.1 26).toNat v) 25 (σ.1 26).toNat 0) 26 (σ.1 26 + 1)) (σ.1 0) 101 p) r σ')) = QP at hQ ⊢
  have n6 : 0 ≤ σ.1 6 ∧ σ.1 6 ≤ 5 := hB.1 6
  have n9 : 0 ≤ σ.1 9 ∧ σ.1 9 ≤ 20 := hB.1 9
  have n0 : 0 ≤ σ.1 0 ∧ σ.1 0 ≤ 2100 := hB.1 0
  have n14 : 0 ≤ σ.1 14 ∧ σ.1 14 ≤ 5 := hB.1 14
  have n26 : 0 ≤ σ.1 26 ∧ σ.1 26 ≤ 60 := hB.1 26
  have n42 : 0 ≤ σ.1 42 := (hB.1 42).1
  refine j_aload_n (pc := 0) dX2_early_0 rfl ?_
  refine j_iload_n (pc := 1) dX2_early_1 rfl ?_
  refine j_callV (pc := 2) (m_isPerson σ p (by omega) (show 0 ≤ σ.1 9 ∧ σ.1 9 ≤ 20 by omega)) (lw_V q1582 q1584 qs26 q48 q1585) rfl md_yX2_isPerson (RC.ofM _ rfl) (by decide) (by decide) rfl (Nat.le_of_ble_eq_true rfl) dX2_early_2 (qI.k (fun r_2 s_2 q_2 => ?_))
  obtain ⟨e1q_2, e2q_2⟩ := q_2
  subst r_2
  subst s_2
  refine j_istore_n (pc := 5) dX2_early_5 (by decide) (lo' := [some (.ref o), some (IV p), some (IV v), some (IV (bI (0 ≤ p ∧ p ≤ σ.1 9 - 1)))]) rfl ?_
  refine j_aload_n (pc := 6) dX2_early_6 rfl ?_
  refine j_iload_n (pc := 7) dX2_early_7 rfl ?_
  refine j_iload_n (pc := 8) dX2_early_8 rfl ?_
  refine j_iconst (pc := 9) dX2_early_9 rfl ?_
  refine j_iconst (pc := 10) dX2_early_10 rfl ?_
  refine j_callS (pc := 11) (m_in σ v 0 5 (by omega) (by decide) (by decide)) (lw_S q1532 q1533 q48 q1534) md_yX2_in (by decide) (by decide) rfl (Nat.le_of_ble_eq_true rfl) dX2_early_11 (qI.k (fun r_11 s_11 q_11 => ?_))
  obtain ⟨e1q_11, e2q_11⟩ := q_11
  subst r_11
  subst s_11
  refine j_iload_n (pc := 14) dX2_early_14 rfl ?_
  refine j_ifb_eq (pc := 15) (tgt := 47) dX2_early_15 (by decide) (fun c_15 => ?_) (fun c_15 => ?_)
  · refine j_iconst (pc := 47) dX2_early_47 rfl ?_
    refine j_callV (pc := 48) (m_asked3 σ (bI (0 ≤ p ∧ p ≤ σ.1 9 - 1)) (bI (0 ≤ v ∧ v ≤ 5)) 0 (bI_01 _) (bI_01 _) (Or.inl rfl)) (lw_V q1558 q1560 qs23 q48 q1561) rfl md_yX2_asked_3 (RC.ofM _ rfl) (by decide) (by decide) rfl (Nat.le_of_ble_eq_true rfl) dX2_early_48 (qI.k (fun r_48 s_48 q_48 => ?_))
    rcases q_48 with ⟨q_48a, rfl, rfl⟩ | ⟨q_48a, rfl, rfl⟩
    · exact absurd q_48a (by simp)
    · have q_48_0 := bI_or ((0 ≤ p ∧ p ≤ σ.1 9 - 1))
      have q_48_1 := bI_or ((0 ≤ v ∧ v ≤ 5))
      refine j_if_ne (pc := 51) (tgt := 56) dX2_early_51 (by decide) (by decide) (fun c_51 => ?_) (fun c_51 => ?_)
      · exact absurd c_51 (by decide)
      · refine j_iconst (pc := 54) dX2_early_54 rfl ?_
        refine j_iret (pc := 55) rfl (hQ _ _ ?_) dX2_early_55
        exact Or.inr ⟨by unfold t3; (repeat' split) <;> omega, rfl, by congr 1; unfold t3; (repeat' split) <;> omega⟩
  · refine j_aload_n (pc := 18) dX2_early_18 rfl ?_
    refine m_getI (pc := 19) (v := σ.1 14) fa_X2_41_X2 (by decide) rfl rfl dX2_early_19 ?_
    have n_1 : 0 ≤ σ.1 14 ∧ σ.1 14 ≤ 5 := hB.1 14
    refine j_iconst (pc := 22) dX2_early_22 rfl ?_
    refine j_icmp_ne (pc := 23) (tgt := 47) dX2_early_23 (by decide) (by omega) (by decide) (fun c_23 => ?_) (fun c_23 => ?_)
    · refine j_iconst (pc := 47) dX2_early_47 rfl ?_
      refine j_callV (pc := 48) (m_asked3 σ (bI (0 ≤ p ∧ p ≤ σ.1 9 - 1)) (bI (0 ≤ v ∧ v ≤ 5)) 0 (bI_01 _) (bI_01 _) (Or.inl rfl)) (lw_V q1558 q1560 qs23 q48 q1561) rfl md_yX2_asked_3 (RC.ofM _ rfl) (by decide) (by decide) rfl (Nat.le_of_ble_eq_true rfl) dX2_early_48 (qI.k (fun r_48_1 s_48_1 q_48_1 => ?_))
      rcases q_48_1 with ⟨q_48_1a, rfl, rfl⟩ | ⟨q_48_1a, rfl, rfl⟩
      · exact absurd q_48_1a (by simp)
      · have q_48_1_0 := bI_or ((0 ≤ p ∧ p ≤ σ.1 9 - 1))
        have q_48_1_1 := bI_or ((0 ≤ v ∧ v ≤ 5))
        refine j_if_ne (pc := 51) (tgt := 56) dX2_early_51 (by decide) (by decide) (fun c_51_1 => ?_) (fun c_51_1 => ?_)
        · exact absurd c_51_1 (by decide)
        · refine j_iconst (pc := 54) dX2_early_54 rfl ?_
          refine j_iret (pc := 55) rfl (hQ _ _ ?_) dX2_early_55
          exact Or.inr ⟨by unfold t3; (repeat' split) <;> omega, rfl, by congr 1; unfold t3; (repeat' split) <;> omega⟩
    · refine j_aload_n (pc := 26) dX2_early_26 rfl ?_
      refine j_iload_n (pc := 27) dX2_early_27 rfl ?_
      refine j_callV (pc := 28) (m_canVote σ p (by omega) hB) (lw_V q1666 q1668 qs36 q48 q1669) rfl md_yX2_canVote (RC.ofM _ rfl) (by decide) (by decide) rfl (Nat.le_of_ble_eq_true rfl) dX2_early_28 (qI.k (fun r_28 s_28 q_28 => ?_))
      obtain ⟨e1q_28, e2q_28⟩ := q_28
      subst r_28
      subst s_28
      refine j_ifb_eq (pc := 31) (tgt := 47) dX2_early_31 (by decide) (fun c_31 => ?_) (fun c_31 => ?_)
      · refine j_iconst (pc := 47) dX2_early_47 rfl ?_
        refine j_callV (pc := 48) (m_asked3 σ (bI (0 ≤ p ∧ p ≤ σ.1 9 - 1)) (bI (0 ≤ v ∧ v ≤ 5)) 0 (bI_01 _) (bI_01 _) (Or.inl rfl)) (lw_V q1558 q1560 qs23 q48 q1561) rfl md_yX2_asked_3 (RC.ofM _ rfl) (by decide) (by decide) rfl (Nat.le_of_ble_eq_true rfl) dX2_early_48 (qI.k (fun r_48_1 s_48_1 q_48_1 => ?_))
        rcases q_48_1 with ⟨q_48_1a, rfl, rfl⟩ | ⟨q_48_1a, rfl, rfl⟩
        · exact absurd q_48_1a (by simp)
        · have q_48_1_0 := bI_or ((0 ≤ p ∧ p ≤ σ.1 9 - 1))
          have q_48_1_1 := bI_or ((0 ≤ v ∧ v ≤ 5))
          refine j_if_ne (pc := 51) (tgt := 56) dX2_early_51 (by decide) (by decide) (fun c_51_1 => ?_) (fun c_51_1 => ?_)
          · exact absurd c_51_1 (by decide)
          · refine j_iconst (pc := 54) dX2_early_54 rfl ?_
            refine j_iret (pc := 55) rfl (hQ _ _ ?_) dX2_early_55
            exact Or.inr ⟨by unfold t3; (repeat' split) <;> omega, rfl, by congr 1; unfold t3; (repeat' split) <;> omega⟩
      · refine j_aload_n (pc := 34) dX2_early_34 rfl ?_
        refine m_getI (pc := 35) (v := σ.1 26) fa_X2_165_X2 (by decide) rfl rfl dX2_early_35 ?_
        have n_2 : 0 ≤ σ.1 26 ∧ σ.1 26 ≤ 60 := hB.1 26
        refine j_bipush (pc := 38) (a := 60) dX2_early_38 (by decide) ?_
        refine j_icmp_ge (pc := 40) (tgt := 47) dX2_early_40 (by decide) (by omega) (by decide) (fun c_40 => ?_) (fun c_40 => ?_)
        · refine j_iconst (pc := 47) dX2_early_47 rfl ?_
          refine j_callV (pc := 48) (m_asked3 σ (bI (0 ≤ p ∧ p ≤ σ.1 9 - 1)) (bI (0 ≤ v ∧ v ≤ 5)) 0 (bI_01 _) (bI_01 _) (Or.inl rfl)) (lw_V q1558 q1560 qs23 q48 q1561) rfl md_yX2_asked_3 (RC.ofM _ rfl) (by decide) (by decide) rfl (Nat.le_of_ble_eq_true rfl) dX2_early_48 (qI.k (fun r_48_1 s_48_1 q_48_1 => ?_))
          rcases q_48_1 with ⟨q_48_1a, rfl, rfl⟩ | ⟨q_48_1a, rfl, rfl⟩
          · exact absurd q_48_1a (by simp)
          · have q_48_1_0 := bI_or ((0 ≤ p ∧ p ≤ σ.1 9 - 1))
            have q_48_1_1 := bI_or ((0 ≤ v ∧ v ≤ 5))
            refine j_if_ne (pc := 51) (tgt := 56) dX2_early_51 (by decide) (by decide) (fun c_51_1 => ?_) (fun c_51_1 => ?_)
            · exact absurd c_51_1 (by decide)
            · refine j_iconst (pc := 54) dX2_early_54 rfl ?_
              refine j_iret (pc := 55) rfl (hQ _ _ ?_) dX2_early_55
              exact Or.inr ⟨by unfold t3; (repeat' split) <;> omega, rfl, by congr 1; unfold t3; (repeat' split) <;> omega⟩
        · refine j_iconst (pc := 43) dX2_early_43 rfl ?_
          refine j_goto (pc := 44) (tgt := 48) dX2_early_44 (by decide) ?_
          refine j_callV (pc := 48) (m_asked3 σ (bI (0 ≤ p ∧ p ≤ σ.1 9 - 1)) (bI (0 ≤ v ∧ v ≤ 5)) 1 (bI_01 _) (bI_01 _) (Or.inr rfl)) (lw_V q1558 q1560 qs23 q48 q1561) rfl md_yX2_asked_3 (RC.ofM _ rfl) (by decide) (by decide) rfl (Nat.le_of_ble_eq_true rfl) dX2_early_48 (qI.k (fun r_48_1 s_48_1 q_48_1 => ?_))
          rcases q_48_1 with ⟨q_48_1a, rfl, rfl⟩ | ⟨q_48_1a, rfl, rfl⟩
          · have q_48_1_0 := bI_or ((0 ≤ p ∧ p ≤ σ.1 9 - 1))
            have q_48_1_1 := bI_or ((0 ≤ v ∧ v ≤ 5))
            refine j_if_ne (pc := 51) (tgt := 56) dX2_early_51 (by decide) (by decide) (fun c_51_1 => ?_) (fun c_51_1 => ?_)
            · refine j_aload_n (pc := 56) dX2_early_56 rfl ?_
              refine j_iload_n (pc := 57) dX2_early_57 rfl ?_
              refine j_callV (pc := 58) (m_voids (setI σ 43 0) p (by omega) (Bd.i hB (by show 0 ≤ 0 ∧ 0 ≤ (3 : Int); omega)) (by show σ.1 42 < 1000; omega)) (lw_V q1594 q1596 qs28 q48 q1597) rfl md_yX2_voids (RC.ofM _ rfl) (by decide) (by decide) rfl (Nat.le_of_ble_eq_true rfl) dX2_early_58 (qI.k (fun r_58 s_58 q_58 => ?_))
              obtain ⟨e1q_58, e2q_58⟩ := q_58
              subst r_58
              subst s_58
              have v42 : σ.1 42 ≤ (sVoids (setI σ 43 0) p).1 42 ∧ (sVoids (setI σ 43 0) p).1 42 ≤ σ.1 42 + 1 := sVoids_42 (setI σ 43 0) p
              have vB : Bd (sVoids (setI σ 43 0) p) := Bd.voids (Bd.i hB (by show 0 ≤ 0 ∧ 0 ≤ (3 : Int); omega)) (by omega) (by show σ.1 42 < 1000; omega)
              refine j_pop (pc := 61) dX2_early_61 rfl ?_
              refine j_aload_n (pc := 62) dX2_early_62 rfl ?_
              refine m_getA (pc := 63) fa_X2_57_X2 (by decide) (by decide) dX2_early_63 ?_
              refine j_aload_n (pc := 66) dX2_early_66 rfl ?_
              refine m_getI (pc := 67) (v := σ.1 26) fa_X2_165_X2 (by decide) rfl (sVoids_1 (setI σ 43 0) p (by decide)) dX2_early_67 ?_
              refine j_iload_n (pc := 70) dX2_early_70 rfl ?_
              refine m_st (pc := 71) (by decide) (by decide) rfl (by show 0 ≤ σ.1 26 ∧ σ.1 26 < ((60 : Nat) : Int); omega) dX2_early_71 ?_
              refine j_aload_n (pc := 72) dX2_early_72 rfl ?_
              refine m_getA (pc := 73) fa_X2_60_X2 (by decide) (by decide) dX2_early_73 ?_
              refine j_aload_n (pc := 76) dX2_early_76 rfl ?_
              refine m_getI (pc := 77) (v := σ.1 26) fa_X2_165_X2 (by decide) rfl (sVoids_1 (setI σ 43 0) p (by decide)) dX2_early_77 ?_
              refine j_iload_n (pc := 80) dX2_early_80 rfl ?_
              refine m_st (pc := 81) (by decide) (by decide) rfl (by show 0 ≤ σ.1 26 ∧ σ.1 26 < ((60 : Nat) : Int); omega) dX2_early_81 ?_
              refine j_aload_n (pc := 82) dX2_early_82 rfl ?_
              refine m_getA (pc := 83) fa_X2_63_X2 (by decide) (by decide) dX2_early_83 ?_
              refine j_aload_n (pc := 86) dX2_early_86 rfl ?_
              refine m_getI (pc := 87) (v := σ.1 26) fa_X2_165_X2 (by decide) rfl (sVoids_1 (setI σ 43 0) p (by decide)) dX2_early_87 ?_
              refine j_iconst (pc := 90) dX2_early_90 rfl ?_
              refine m_st (pc := 91) (by decide) (by decide) rfl (by show 0 ≤ σ.1 26 ∧ σ.1 26 < ((60 : Nat) : Int); omega) dX2_early_91 ?_
              refine j_aload_n (pc := 92) dX2_early_92 rfl ?_
              refine j_dup (pc := 93) dX2_early_93 rfl ?_
              refine m_getI (pc := 94) (v := σ.1 26) fa_X2_165_X2 (by decide) rfl (sVoids_1 (setI σ 43 0) p (by decide)) dX2_early_94 ?_
              refine j_iconst (pc := 97) dX2_early_97 rfl ?_
              refine j_iadd (pc := 98) dX2_early_98 ?_
              refine m_putI (pc := 99) fp_X2_165_X2 (by decide) rfl dX2_early_99 ?_
              refine j_aload_n (pc := 102) dX2_early_102 rfl ?_
              refine j_aload_n (pc := 103) dX2_early_103 rfl ?_
              refine m_getI (pc := 104) (v := σ.1 0) fa_X2_149_X2 (by decide) rfl (sVoids_1 (setI σ 43 0) p (by decide)) dX2_early_104 ?_
              have n_3 : 0 ≤ σ.1 0 ∧ σ.1 0 ≤ 2100 := hB.1 0
              refine j_bipush (pc := 107) (a := 101) dX2_early_107 (by decide) ?_
              refine j_iload_n (pc := 109) dX2_early_109 rfl ?_
              refine j_callV (pc := 110) (m_notes (setI (setA (setA (setA (sVoids (setI σ 43 0) p) 23 (σ.1 26).toNat p) 24 (σ.1 26).toNat v) 25 (σ.1 26).toNat 0) 26 ((σ.1 26) + 1)) (σ.1 0) 101 p (show 0 ≤ (sVoids (setI σ 43 0) p).1 42 ∧ (sVoids (setI σ 43 0) p).1 42 < 1000 by omega)) (lw_V q1602 q1604 qs30 q48 q1605) rfl md_yX2_notes (RC.ofM _ rfl) (by decide) (by decide) rfl (Nat.le_of_ble_eq_true rfl) dX2_early_110 (qV.k (fun s_110 q_110 => ?_))
              obtain rfl := q_110
              refine j_aload_n (pc := 113) dX2_early_113 rfl ?_
              refine m_getI (pc := 114) (v := (σ.1 26) + 1) fa_X2_165_X2 (by decide) rfl rfl dX2_early_114 ?_
              refine j_iconst (pc := 117) dX2_early_117 rfl ?_
              refine j_isub (pc := 118) dX2_early_118 ?_
              refine j_iret (pc := 119) rfl (hQ _ _ ?_) dX2_early_119
              exact Or.inl ⟨by unfold t3; (repeat' split) <;> omega, by omega, rfl⟩
            · exact absurd c_51_1 (by decide)
          · have q_48_1_0 := bI_or ((0 ≤ p ∧ p ≤ σ.1 9 - 1))
            have q_48_1_1 := bI_or ((0 ≤ v ∧ v ≤ 5))
            refine j_if_ne (pc := 51) (tgt := 56) dX2_early_51 (by decide) (by decide) (fun c_51_1 => ?_) (fun c_51_1 => ?_)
            · exact absurd c_51_1 (by decide)
            · refine j_iconst (pc := 54) dX2_early_54 rfl ?_
              refine j_iret (pc := 55) rfl (hQ _ _ ?_) dX2_early_55
              exact Or.inr ⟨by unfold t3; (repeat' split) <;> omega, rfl, by congr 1; unfold t3; (repeat' split) <;> omega⟩

theorem md_yX2_casts : MD yX2_casts 2 := by decide +kernel
set_option maxHeartbeats 4000000 in
theorem m_vote {Γ : GG} {l : Launch} {o : Nat} {ad : Nat → Nat} (σ : MM) (p : Int) (s : Int) (v : Int) (hp : RR p) (hs : RR s) (hv : RR v) (hn : σ.1 42 < 900) (hI : In σ) (hB : Bd σ) : Ct Γ (AM o ad) (RepM Γ o ad) l yX2_vote (ws_ yX2_vote cX2_vote 5 (some .int)) 4 0 0 [.ref o, IV p, IV s, IV v] σ (qI (fun (r : Int) (σ' : MM) => oEnd σ (t3 (isP σ p ∧ isS σ s) (0 ≤ v ∧ v ≤ 5) (σ.1 14 = 3 ∧ (σ.2 20 p.toNat ≠ -1 ∧ σ.2 8 p.toNat = 0) ∧ σ.2 22 p.toNat = 0 ∧ σ.2 20 p.toNat = s)) (σ.2 28 (σ.2 20 p.toNat).toNat + 1) (sCasts (sNote (sVoids (σ0 σ) p) (σ.1 0) 118 p) p v) r σ')) X0 := by
  refine Ct.ofJ (own := RX2) (nm := "vote") (lo := [some (.ref o), some (IV p), some (IV s), some (IV v), none]) pn_X2 rfl rfl (List.forall_mem_cons.mpr ⟨rfl, (List.forall_mem_cons.mpr ⟨rfl, (List.forall_mem_cons.mpr ⟨rfl, (List.forall_mem_cons.mpr ⟨rfl, (fun _ h => nomatch h)⟩)⟩)⟩)⟩) (Nat.le_of_ble_eq_true rfl) rfl ?_
  have hQ : ∀ (r : Int) (σ' : MM), (oEnd σ (t3 (isP σ p ∧ isS σ s) (0 ≤ v ∧ v ≤ 5) (σ.1 14 = 3 ∧ (σ.2 20 p.toNat ≠ -1 ∧ σ.2 8 p.toNat = 0) ∧ σ.2 22 p.toNat = 0 ∧ σ.2 20 p.toNat = s)) (σ.2 28 (σ.2 20 p.toNat).toNat + 1) (sCasts (sNote (sVoids (σ0 σ) p) (σ.1 0) 118 p) p v) r σ') → (qI (fun (r : Int) (σ' : MM) => oEnd σ (t3 (isP σ p ∧ isS σ s) (0 ≤ v ∧ v ≤ 5) (σ.1 14 = 3 ∧ (σ.2 20 p.toNat ≠ -1 ∧ σ.2 8 p.toNat = 0) ∧ σ.2 22 p.toNat = 0 ∧ σ.2 20 p.toNat = s)) (σ.2 28 (σ.2 20 p.toNat).toNat + 1) (sCasts (sNote (sVoids (σ0 σ) p) (σ.1 0) 118 p) p v) r σ')) (some (IV r)) σ' := fun r σ' h => ⟨r, rfl, h⟩
  generalize (qI (fun (r : Int) (σ' : MM) => oEnd σ (t3 (isP σ p ∧ isS σ s) (0 ≤ v ∧ v ≤ 5) (σ.1 14 = 3 ∧ (σ.2 20 p.toNat ≠ -1 ∧ σ.2 8 p.toNat = 0) ∧ σ.2 22 p.toNat = 0 ∧ σ.2 20 p.toNat = s)) (σ.2 28 (σ.2 20 p.toNat).toNat + 1) (sCasts (sNote (sVoids (σ0 σ) p) (σ.1 0) 118 p) p v) r σ')) = QP at hQ ⊢
  have n6 : 0 ≤ σ.1 6 ∧ σ.1 6 ≤ 5 := hB.1 6
  have n9 : 0 ≤ σ.1 9 ∧ σ.1 9 ≤ 20 := hB.1 9
  have n0 : 0 ≤ σ.1 0 ∧ σ.1 0 ≤ 2100 := hB.1 0
  have n14 : 0 ≤ σ.1 14 ∧ σ.1 14 ≤ 5 := hB.1 14
  have n26 : 0 ≤ σ.1 26 ∧ σ.1 26 ≤ 60 := hB.1 26
  have n42 : 0 ≤ σ.1 42 := (hB.1 42).1
  refine j_aload_n (pc := 0) dX2_vote_0 rfl ?_
  refine j_iload_n (pc := 1) dX2_vote_1 rfl ?_
  refine j_callV (pc := 2) (m_isPerson σ p (by omega) (show 0 ≤ σ.1 9 ∧ σ.1 9 ≤ 20 by omega)) (lw_V q1582 q1584 qs26 q48 q1585) rfl md_yX2_isPerson (RC.ofM _ rfl) (by decide) (by decide) rfl (Nat.le_of_ble_eq_true rfl) dX2_vote_2 (qI.k (fun r_2 s_2 q_2 => ?_))
  obtain ⟨e1q_2, e2q_2⟩ := q_2
  subst r_2
  subst s_2
  refine j_ifb_eq (pc := 5) (tgt := 20) dX2_vote_5 (by decide) (fun c_5 => ?_) (fun c_5 => ?_)
  · refine j_iconst (pc := 20) dX2_vote_20 rfl ?_
    refine j_istore (pc := 21) dX2_vote_21 (by decide) (lo' := [some (.ref o), some (IV p), some (IV s), some (IV v), some (IV 0)]) rfl ?_
    refine j_aload_n (pc := 23) dX2_vote_23 rfl ?_
    refine j_iload (pc := 24) dX2_vote_24 rfl ?_
    refine j_iload_n (pc := 26) dX2_vote_26 rfl ?_
    refine j_iconst (pc := 27) dX2_vote_27 rfl ?_
    refine j_iconst (pc := 28) dX2_vote_28 rfl ?_
    refine j_callS (pc := 29) (m_in σ v 0 5 (by omega) (by decide) (by decide)) (lw_S q1532 q1533 q48 q1534) md_yX2_in (by decide) (by decide) rfl (Nat.le_of_ble_eq_true rfl) dX2_vote_29 (qI.k (fun r_29 s_29 q_29 => ?_))
    obtain ⟨e1q_29, e2q_29⟩ := q_29
    subst r_29
    subst s_29
    refine j_iload (pc := 32) dX2_vote_32 rfl ?_
    refine j_if_eq (pc := 34) (tgt := 76) dX2_vote_34 (by decide) (by decide) (fun c_34 => ?_) (fun c_34 => ?_)
    · refine j_iconst (pc := 76) dX2_vote_76 rfl ?_
      refine j_callV (pc := 77) (m_asked3 σ 0 (bI (0 ≤ v ∧ v ≤ 5)) 0 (Or.inl rfl) (bI_01 _) (Or.inl rfl)) (lw_V q1558 q1560 qs23 q48 q1561) rfl md_yX2_asked_3 (RC.ofM _ rfl) (by decide) (by decide) rfl (Nat.le_of_ble_eq_true rfl) dX2_vote_77 (qI.k (fun r_77 s_77 q_77 => ?_))
      rcases q_77 with ⟨q_77a, rfl, rfl⟩ | ⟨q_77a, rfl, rfl⟩
      · exact absurd q_77a (by simp)
      · have q_77_1 := bI_or ((0 ≤ v ∧ v ≤ 5))
        refine j_if_ne (pc := 80) (tgt := 85) dX2_vote_80 (by decide) (by decide) (fun c_80 => ?_) (fun c_80 => ?_)
        · exact absurd c_80 (by decide)
        · refine j_iconst (pc := 83) dX2_vote_83 rfl ?_
          refine j_iret (pc := 84) rfl (hQ _ _ ?_) dX2_vote_84
          exact Or.inr ⟨by unfold t3; (repeat' split) <;> omega, rfl, by congr 1; unfold t3; (repeat' split) <;> omega⟩
    · exact absurd c_34 (by decide)
  · refine j_aload_n (pc := 8) dX2_vote_8 rfl ?_
    refine j_iload_n (pc := 9) dX2_vote_9 rfl ?_
    refine j_callV (pc := 10) (m_isStation σ s (by omega) (show 0 ≤ σ.1 6 ∧ σ.1 6 ≤ 5 by omega)) (lw_V q1566 q1568 qs24 q48 q1569) rfl md_yX2_isStation (RC.ofM _ rfl) (by decide) (by decide) rfl (Nat.le_of_ble_eq_true rfl) dX2_vote_10 (qI.k (fun r_10 s_10 q_10 => ?_))
    obtain ⟨e1q_10, e2q_10⟩ := q_10
    subst r_10
    subst s_10
    refine j_ifb_eq (pc := 13) (tgt := 20) dX2_vote_13 (by decide) (fun c_13 => ?_) (fun c_13 => ?_)
    · refine j_iconst (pc := 20) dX2_vote_20 rfl ?_
      refine j_istore (pc := 21) dX2_vote_21 (by decide) (lo' := [some (.ref o), some (IV p), some (IV s), some (IV v), some (IV 0)]) rfl ?_
      refine j_aload_n (pc := 23) dX2_vote_23 rfl ?_
      refine j_iload (pc := 24) dX2_vote_24 rfl ?_
      refine j_iload_n (pc := 26) dX2_vote_26 rfl ?_
      refine j_iconst (pc := 27) dX2_vote_27 rfl ?_
      refine j_iconst (pc := 28) dX2_vote_28 rfl ?_
      refine j_callS (pc := 29) (m_in σ v 0 5 (by omega) (by decide) (by decide)) (lw_S q1532 q1533 q48 q1534) md_yX2_in (by decide) (by decide) rfl (Nat.le_of_ble_eq_true rfl) dX2_vote_29 (qI.k (fun r_29_1 s_29_1 q_29_1 => ?_))
      obtain ⟨e1q_29_1, e2q_29_1⟩ := q_29_1
      subst r_29_1
      subst s_29_1
      refine j_iload (pc := 32) dX2_vote_32 rfl ?_
      refine j_if_eq (pc := 34) (tgt := 76) dX2_vote_34 (by decide) (by decide) (fun c_34_1 => ?_) (fun c_34_1 => ?_)
      · refine j_iconst (pc := 76) dX2_vote_76 rfl ?_
        refine j_callV (pc := 77) (m_asked3 σ 0 (bI (0 ≤ v ∧ v ≤ 5)) 0 (Or.inl rfl) (bI_01 _) (Or.inl rfl)) (lw_V q1558 q1560 qs23 q48 q1561) rfl md_yX2_asked_3 (RC.ofM _ rfl) (by decide) (by decide) rfl (Nat.le_of_ble_eq_true rfl) dX2_vote_77 (qI.k (fun r_77_1 s_77_1 q_77_1 => ?_))
        rcases q_77_1 with ⟨q_77_1a, rfl, rfl⟩ | ⟨q_77_1a, rfl, rfl⟩
        · exact absurd q_77_1a (by simp)
        · have q_77_1_1 := bI_or ((0 ≤ v ∧ v ≤ 5))
          refine j_if_ne (pc := 80) (tgt := 85) dX2_vote_80 (by decide) (by decide) (fun c_80_1 => ?_) (fun c_80_1 => ?_)
          · exact absurd c_80_1 (by decide)
          · refine j_iconst (pc := 83) dX2_vote_83 rfl ?_
            refine j_iret (pc := 84) rfl (hQ _ _ ?_) dX2_vote_84
            exact Or.inr ⟨by unfold t3; (repeat' split) <;> omega, rfl, by congr 1; unfold t3; (repeat' split) <;> omega⟩
      · exact absurd c_34_1 (by decide)
    · refine j_iconst (pc := 16) dX2_vote_16 rfl ?_
      refine j_goto (pc := 17) (tgt := 21) dX2_vote_17 (by decide) ?_
      refine j_istore (pc := 21) dX2_vote_21 (by decide) (lo' := [some (.ref o), some (IV p), some (IV s), some (IV v), some (IV 1)]) rfl ?_
      refine j_aload_n (pc := 23) dX2_vote_23 rfl ?_
      refine j_iload (pc := 24) dX2_vote_24 rfl ?_
      refine j_iload_n (pc := 26) dX2_vote_26 rfl ?_
      refine j_iconst (pc := 27) dX2_vote_27 rfl ?_
      refine j_iconst (pc := 28) dX2_vote_28 rfl ?_
      refine j_callS (pc := 29) (m_in σ v 0 5 (by omega) (by decide) (by decide)) (lw_S q1532 q1533 q48 q1534) md_yX2_in (by decide) (by decide) rfl (Nat.le_of_ble_eq_true rfl) dX2_vote_29 (qI.k (fun r_29_1 s_29_1 q_29_1 => ?_))
      obtain ⟨e1q_29_1, e2q_29_1⟩ := q_29_1
      subst r_29_1
      subst s_29_1
      refine j_iload (pc := 32) dX2_vote_32 rfl ?_
      refine j_if_eq (pc := 34) (tgt := 76) dX2_vote_34 (by decide) (by decide) (fun c_34_1 => ?_) (fun c_34_1 => ?_)
      · exact absurd c_34_1 (by decide)
      · refine j_aload_n (pc := 37) dX2_vote_37 rfl ?_
        refine m_getI (pc := 38) (v := σ.1 14) fa_X2_41_X2 (by decide) rfl rfl dX2_vote_38 ?_
        have n_1 : 0 ≤ σ.1 14 ∧ σ.1 14 ≤ 5 := hB.1 14
        refine j_iconst (pc := 41) dX2_vote_41 rfl ?_
        refine j_icmp_ne (pc := 42) (tgt := 76) dX2_vote_42 (by decide) (by omega) (by decide) (fun c_42 => ?_) (fun c_42 => ?_)
        · refine j_iconst (pc := 76) dX2_vote_76 rfl ?_
          refine j_callV (pc := 77) (m_asked3 σ 1 (bI (0 ≤ v ∧ v ≤ 5)) 0 (Or.inr rfl) (bI_01 _) (Or.inl rfl)) (lw_V q1558 q1560 qs23 q48 q1561) rfl md_yX2_asked_3 (RC.ofM _ rfl) (by decide) (by decide) rfl (Nat.le_of_ble_eq_true rfl) dX2_vote_77 (qI.k (fun r_77_1 s_77_1 q_77_1 => ?_))
          rcases q_77_1 with ⟨q_77_1a, rfl, rfl⟩ | ⟨q_77_1a, rfl, rfl⟩
          · exact absurd q_77_1a (by simp)
          · have q_77_1_1 := bI_or ((0 ≤ v ∧ v ≤ 5))
            refine j_if_ne (pc := 80) (tgt := 85) dX2_vote_80 (by decide) (by decide) (fun c_80_1 => ?_) (fun c_80_1 => ?_)
            · exact absurd c_80_1 (by decide)
            · refine j_iconst (pc := 83) dX2_vote_83 rfl ?_
              refine j_iret (pc := 84) rfl (hQ _ _ ?_) dX2_vote_84
              exact Or.inr ⟨by unfold t3; (repeat' split) <;> omega, rfl, by congr 1; unfold t3; (repeat' split) <;> omega⟩
        · refine j_aload_n (pc := 45) dX2_vote_45 rfl ?_
          refine j_iload_n (pc := 46) dX2_vote_46 rfl ?_
          refine j_callV (pc := 47) (m_canVote σ p (by omega) hB) (lw_V q1666 q1668 qs36 q48 q1669) rfl md_yX2_canVote (RC.ofM _ rfl) (by decide) (by decide) rfl (Nat.le_of_ble_eq_true rfl) dX2_vote_47 (qI.k (fun r_47 s_47 q_47 => ?_))
          obtain ⟨e1q_47, e2q_47⟩ := q_47
          subst r_47
          subst s_47
          refine j_ifb_eq (pc := 50) (tgt := 76) dX2_vote_50 (by decide) (fun c_50 => ?_) (fun c_50 => ?_)
          · refine j_iconst (pc := 76) dX2_vote_76 rfl ?_
            refine j_callV (pc := 77) (m_asked3 σ 1 (bI (0 ≤ v ∧ v ≤ 5)) 0 (Or.inr rfl) (bI_01 _) (Or.inl rfl)) (lw_V q1558 q1560 qs23 q48 q1561) rfl md_yX2_asked_3 (RC.ofM _ rfl) (by decide) (by decide) rfl (Nat.le_of_ble_eq_true rfl) dX2_vote_77 (qI.k (fun r_77_1 s_77_1 q_77_1 => ?_))
            rcases q_77_1 with ⟨q_77_1a, rfl, rfl⟩ | ⟨q_77_1a, rfl, rfl⟩
            · exact absurd q_77_1a (by simp)
            · have q_77_1_1 := bI_or ((0 ≤ v ∧ v ≤ 5))
              refine j_if_ne (pc := 80) (tgt := 85) dX2_vote_80 (by decide) (by decide) (fun c_80_1 => ?_) (fun c_80_1 => ?_)
              · exact absurd c_80_1 (by decide)
              · refine j_iconst (pc := 83) dX2_vote_83 rfl ?_
                refine j_iret (pc := 84) rfl (hQ _ _ ?_) dX2_vote_84
                exact Or.inr ⟨by unfold t3; (repeat' split) <;> omega, rfl, by congr 1; unfold t3; (repeat' split) <;> omega⟩
          · refine j_aload_n (pc := 53) dX2_vote_53 rfl ?_
            refine m_getA (pc := 54) fa_X2_54_X2 (by decide) (by decide) dX2_vote_54 ?_
            refine j_iload_n (pc := 57) dX2_vote_57 rfl ?_
            refine m_zld (pc := 58) (v := σ.2 22 (p).toNat) (by decide) (by decide) rfl (by show 0 ≤ p ∧ p < ((20 : Nat) : Int); omega) rfl dX2_vote_58 ?_
            have n_2 : 0 ≤ σ.2 22 (p).toNat ∧ σ.2 22 (p).toNat ≤ 1 := hB.2 22 ((p).toNat)
            refine j_if_ne (pc := 59) (tgt := 76) dX2_vote_59 (by decide) (by omega) (fun c_59 => ?_) (fun c_59 => ?_)
            · refine j_iconst (pc := 76) dX2_vote_76 rfl ?_
              refine j_callV (pc := 77) (m_asked3 σ 1 (bI (0 ≤ v ∧ v ≤ 5)) 0 (Or.inr rfl) (bI_01 _) (Or.inl rfl)) (lw_V q1558 q1560 qs23 q48 q1561) rfl md_yX2_asked_3 (RC.ofM _ rfl) (by decide) (by decide) rfl (Nat.le_of_ble_eq_true rfl) dX2_vote_77 (qI.k (fun r_77_1 s_77_1 q_77_1 => ?_))
              rcases q_77_1 with ⟨q_77_1a, rfl, rfl⟩ | ⟨q_77_1a, rfl, rfl⟩
              · exact absurd q_77_1a (by simp)
              · have q_77_1_1 := bI_or ((0 ≤ v ∧ v ≤ 5))
                refine j_if_ne (pc := 80) (tgt := 85) dX2_vote_80 (by decide) (by decide) (fun c_80_1 => ?_) (fun c_80_1 => ?_)
                · exact absurd c_80_1 (by decide)
                · refine j_iconst (pc := 83) dX2_vote_83 rfl ?_
                  refine j_iret (pc := 84) rfl (hQ _ _ ?_) dX2_vote_84
                  exact Or.inr ⟨by unfold t3; (repeat' split) <;> omega, rfl, by congr 1; unfold t3; (repeat' split) <;> omega⟩
            · refine j_aload_n (pc := 62) dX2_vote_62 rfl ?_
              refine m_getA (pc := 63) fa_X2_48_X2 (by decide) (by decide) dX2_vote_63 ?_
              refine j_iload_n (pc := 66) dX2_vote_66 rfl ?_
              refine m_ld (pc := 67) (v := σ.2 20 (p).toNat) (by decide) (by decide) rfl (by show 0 ≤ p ∧ p < ((20 : Nat) : Int); omega) rfl dX2_vote_67 ?_
              have n_3 : (-1) ≤ σ.2 20 (p).toNat ∧ σ.2 20 (p).toNat ≤ 4 := hB.2 20 ((p).toNat)
              refine j_iload_n (pc := 68) dX2_vote_68 rfl ?_
              refine j_icmp_ne (pc := 69) (tgt := 76) dX2_vote_69 (by decide) (by omega) (by omega) (fun c_69 => ?_) (fun c_69 => ?_)
              · refine j_iconst (pc := 76) dX2_vote_76 rfl ?_
                refine j_callV (pc := 77) (m_asked3 σ 1 (bI (0 ≤ v ∧ v ≤ 5)) 0 (Or.inr rfl) (bI_01 _) (Or.inl rfl)) (lw_V q1558 q1560 qs23 q48 q1561) rfl md_yX2_asked_3 (RC.ofM _ rfl) (by decide) (by decide) rfl (Nat.le_of_ble_eq_true rfl) dX2_vote_77 (qI.k (fun r_77_1 s_77_1 q_77_1 => ?_))
                rcases q_77_1 with ⟨q_77_1a, rfl, rfl⟩ | ⟨q_77_1a, rfl, rfl⟩
                · exact absurd q_77_1a (by simp)
                · have q_77_1_1 := bI_or ((0 ≤ v ∧ v ≤ 5))
                  refine j_if_ne (pc := 80) (tgt := 85) dX2_vote_80 (by decide) (by decide) (fun c_80_1 => ?_) (fun c_80_1 => ?_)
                  · exact absurd c_80_1 (by decide)
                  · refine j_iconst (pc := 83) dX2_vote_83 rfl ?_
                    refine j_iret (pc := 84) rfl (hQ _ _ ?_) dX2_vote_84
                    exact Or.inr ⟨by unfold t3; (repeat' split) <;> omega, rfl, by congr 1; unfold t3; (repeat' split) <;> omega⟩
              · refine j_iconst (pc := 72) dX2_vote_72 rfl ?_
                refine j_goto (pc := 73) (tgt := 77) dX2_vote_73 (by decide) ?_
                refine j_callV (pc := 77) (m_asked3 σ 1 (bI (0 ≤ v ∧ v ≤ 5)) 1 (Or.inr rfl) (bI_01 _) (Or.inr rfl)) (lw_V q1558 q1560 qs23 q48 q1561) rfl md_yX2_asked_3 (RC.ofM _ rfl) (by decide) (by decide) rfl (Nat.le_of_ble_eq_true rfl) dX2_vote_77 (qI.k (fun r_77_1 s_77_1 q_77_1 => ?_))
                rcases q_77_1 with ⟨q_77_1a, rfl, rfl⟩ | ⟨q_77_1a, rfl, rfl⟩
                · have q_77_1_1 := bI_or ((0 ≤ v ∧ v ≤ 5))
                  refine j_if_ne (pc := 80) (tgt := 85) dX2_vote_80 (by decide) (by decide) (fun c_80_1 => ?_) (fun c_80_1 => ?_)
                  · refine j_aload_n (pc := 85) dX2_vote_85 rfl ?_
                    refine j_iload_n (pc := 86) dX2_vote_86 rfl ?_
                    refine j_callV (pc := 87) (m_voids (setI σ 43 0) p (by omega) (Bd.i hB (by show 0 ≤ 0 ∧ 0 ≤ (3 : Int); omega)) (by show σ.1 42 < 1000; omega)) (lw_V q1594 q1596 qs28 q48 q1597) rfl md_yX2_voids (RC.ofM _ rfl) (by decide) (by decide) rfl (Nat.le_of_ble_eq_true rfl) dX2_vote_87 (qI.k (fun r_87 s_87 q_87 => ?_))
                    obtain ⟨e1q_87, e2q_87⟩ := q_87
                    subst r_87
                    subst s_87
                    have v42 : σ.1 42 ≤ (sVoids (setI σ 43 0) p).1 42 ∧ (sVoids (setI σ 43 0) p).1 42 ≤ σ.1 42 + 1 := sVoids_42 (setI σ 43 0) p
                    have vB : Bd (sVoids (setI σ 43 0) p) := Bd.voids (Bd.i hB (by show 0 ≤ 0 ∧ 0 ≤ (3 : Int); omega)) (by omega) (by show σ.1 42 < 1000; omega)
                    refine j_pop (pc := 90) dX2_vote_90 rfl ?_
                    refine j_aload_n (pc := 91) dX2_vote_91 rfl ?_
                    refine j_aload_n (pc := 92) dX2_vote_92 rfl ?_
                    refine m_getI (pc := 93) (v := σ.1 0) fa_X2_149_X2 (by decide) rfl (sVoids_1 (setI σ 43 0) p (by decide)) dX2_vote_93 ?_
                    have n_4 : 0 ≤ σ.1 0 ∧ σ.1 0 ≤ 2100 := hB.1 0
                    refine j_bipush (pc := 96) (a := 118) dX2_vote_96 (by decide) ?_
                    refine j_iload_n (pc := 98) dX2_vote_98 rfl ?_
                    refine j_callV (pc := 99) (m_notes (sVoids (setI σ 43 0) p) (σ.1 0) 118 p (show 0 ≤ (sVoids (setI σ 43 0) p).1 42 ∧ (sVoids (setI σ 43 0) p).1 42 < 1000 by omega)) (lw_V q1602 q1604 qs30 q48 q1605) rfl md_yX2_notes (RC.ofM _ rfl) (by decide) (by decide) rfl (Nat.le_of_ble_eq_true rfl) dX2_vote_99 (qV.k (fun s_99 q_99 => ?_))
                    obtain rfl := q_99
                    refine j_aload_n (pc := 102) dX2_vote_102 rfl ?_
                    refine j_iload_n (pc := 103) dX2_vote_103 rfl ?_
                    refine j_iload_n (pc := 104) dX2_vote_104 rfl ?_
                    have w20 : (sVoids (setI σ 43 0) p).2 20 = σ.2 20 := sVoids_2 (setI σ 43 0) p (by decide)
                    have w28 : (sVoids (setI σ 43 0) p).2 28 = σ.2 28 := sVoids_2 (setI σ 43 0) p (by decide)
                    refine j_callV (pc := 105) (m_casts (sNote (sVoids (setI σ 43 0) p) (σ.1 0) 118 p) p v (by omega) (Bd.note vB (by omega) (by omega) (by omega) (by show (sVoids (setI σ 43 0) p).1 42 < 1000; omega)) (by show 0 ≤ (sVoids (setI σ 43 0) p).2 20 p.toNat; rw [w20]; exact (hI.casts_le ⟨by omega, by omega⟩ (by omega) (by omega)).1) (by show (sVoids (setI σ 43 0) p).2 28 ((sVoids (setI σ 43 0) p).2 20 p.toNat).toNat ≤ 19; rw [w20, w28]; exact (hI.casts_le ⟨by omega, by omega⟩ (by omega) (by omega)).2)) (lw_V q1634 q1636 qs34 q48 q1637) rfl md_yX2_casts (RC.ofM _ rfl) (by decide) (by decide) rfl (Nat.le_of_ble_eq_true rfl) dX2_vote_105 (qI.k (fun r_105 s_105 q_105 => ?_))
                    obtain ⟨e1q_105, e2q_105⟩ := q_105
                    subst r_105
                    subst s_105
                    refine j_iret (pc := 108) rfl (hQ _ _ ?_) dX2_vote_108
                    exact Or.inl ⟨by unfold t3; (repeat' split) <;> omega, by show (sVoids (setI σ 43 0) p).2 28 ((sVoids (setI σ 43 0) p).2 20 p.toNat).toNat + 1 = _; rw [w20, w28], rfl⟩
                  · exact absurd c_80_1 (by decide)
                · have q_77_1_1 := bI_or ((0 ≤ v ∧ v ≤ 5))
                  refine j_if_ne (pc := 80) (tgt := 85) dX2_vote_80 (by decide) (by decide) (fun c_80_1 => ?_) (fun c_80_1 => ?_)
                  · exact absurd c_80_1 (by decide)
                  · refine j_iconst (pc := 83) dX2_vote_83 rfl ?_
                    refine j_iret (pc := 84) rfl (hQ _ _ ?_) dX2_vote_84
                    exact Or.inr ⟨by unfold t3; (repeat' split) <;> omega, rfl, by congr 1; unfold t3; (repeat' split) <;> omega⟩

set_option maxHeartbeats 4000000 in
theorem m_open {Γ : GG} {l : Launch} {o : Nat} {ad : Nat → Nat} (σ : MM) (p : Int) (hp : RR p) (hn : σ.1 42 < 900) (hI : In σ) (hB : Bd σ) : Ct Γ (AM o ad) (RepM Γ o ad) l yX2_open (ws_ yX2_open cX2_open 4 (some .int)) 4 0 0 [.ref o, IV p] σ (qI (fun (r : Int) (σ' : MM) => oEnd σ (t2 (isP σ p) (σ.1 14 = 3 ∧ sSealed σ p (σ.1 26).toNat ≠ -1)) (sSealed σ p (σ.1 26).toNat) (sNote (sCasts (setA (σ0 σ) 25 (sSealed σ p (σ.1 26).toNat).toNat 2) p (σ.2 24 (sSealed σ p (σ.1 26).toNat).toNat)) (σ.1 0) 111 p) r σ')) X0 := by
  refine Ct.ofJ (own := RX2) (nm := "open") (lo := [some (.ref o), some (IV p), none, none]) pn_X2 rfl rfl (List.forall_mem_cons.mpr ⟨rfl, (List.forall_mem_cons.mpr ⟨rfl, (fun _ h => nomatch h)⟩)⟩) (Nat.le_of_ble_eq_true rfl) rfl ?_
  have hQ : ∀ (r : Int) (σ' : MM), (oEnd σ (t2 (isP σ p) (σ.1 14 = 3 ∧ sSealed σ p (σ.1 26).toNat ≠ -1)) (sSealed σ p (σ.1 26).toNat) (sNote (sCasts (setA (σ0 σ) 25 (sSealed σ p (σ.1 26).toNat).toNat 2) p (σ.2 24 (sSealed σ p (σ.1 26).toNat).toNat)) (σ.1 0) 111 p) r σ') → (qI (fun (r : Int) (σ' : MM) => oEnd σ (t2 (isP σ p) (σ.1 14 = 3 ∧ sSealed σ p (σ.1 26).toNat ≠ -1)) (sSealed σ p (σ.1 26).toNat) (sNote (sCasts (setA (σ0 σ) 25 (sSealed σ p (σ.1 26).toNat).toNat 2) p (σ.2 24 (sSealed σ p (σ.1 26).toNat).toNat)) (σ.1 0) 111 p) r σ')) (some (IV r)) σ' := fun r σ' h => ⟨r, rfl, h⟩
  generalize (qI (fun (r : Int) (σ' : MM) => oEnd σ (t2 (isP σ p) (σ.1 14 = 3 ∧ sSealed σ p (σ.1 26).toNat ≠ -1)) (sSealed σ p (σ.1 26).toNat) (sNote (sCasts (setA (σ0 σ) 25 (sSealed σ p (σ.1 26).toNat).toNat 2) p (σ.2 24 (sSealed σ p (σ.1 26).toNat).toNat)) (σ.1 0) 111 p) r σ')) = QP at hQ ⊢
  have n6 : 0 ≤ σ.1 6 ∧ σ.1 6 ≤ 5 := hB.1 6
  have n9 : 0 ≤ σ.1 9 ∧ σ.1 9 ≤ 20 := hB.1 9
  have n0 : 0 ≤ σ.1 0 ∧ σ.1 0 ≤ 2100 := hB.1 0
  have n14 : 0 ≤ σ.1 14 ∧ σ.1 14 ≤ 5 := hB.1 14
  have n26 : 0 ≤ σ.1 26 ∧ σ.1 26 ≤ 60 := hB.1 26
  have n42 : 0 ≤ σ.1 42 := (hB.1 42).1
  have rs := sSealed_rng σ p (σ.1 26).toNat
  refine j_aload_n (pc := 0) dX2_open_0 rfl ?_
  refine j_iload_n (pc := 1) dX2_open_1 rfl ?_
  refine j_callV (pc := 2) (m_isPerson σ p (by omega) (show 0 ≤ σ.1 9 ∧ σ.1 9 ≤ 20 by omega)) (lw_V q1582 q1584 qs26 q48 q1585) rfl md_yX2_isPerson (RC.ofM _ rfl) (by decide) (by decide) rfl (Nat.le_of_ble_eq_true rfl) dX2_open_2 (qI.k (fun r_2 s_2 q_2 => ?_))
  obtain ⟨e1q_2, e2q_2⟩ := q_2
  subst r_2
  subst s_2
  refine j_istore_n (pc := 5) dX2_open_5 (by decide) (lo' := [some (.ref o), some (IV p), some (IV (bI (0 ≤ p ∧ p ≤ σ.1 9 - 1))), none]) rfl ?_
  refine j_iload_n (pc := 6) dX2_open_6 rfl ?_
  refine j_ifb_eq (pc := 7) (tgt := 26) dX2_open_7 (by decide) (fun c_7 => ?_) (fun c_7 => ?_)
  · refine j_iconst (pc := 26) dX2_open_26 rfl ?_
    refine j_istore_n (pc := 27) dX2_open_27 (by decide) (lo' := [some (.ref o), some (IV p), some (IV (bI (0 ≤ p ∧ p ≤ σ.1 9 - 1))), some (IV (-1))]) rfl ?_
    refine j_aload_n (pc := 28) dX2_open_28 rfl ?_
    refine j_iload_n (pc := 29) dX2_open_29 rfl ?_
    refine j_iload_n (pc := 30) dX2_open_30 rfl ?_
    refine j_iconst (pc := 31) dX2_open_31 rfl ?_
    refine j_icmp_eq (pc := 32) (tgt := 39) dX2_open_32 (by decide) (by decide) (by decide) (fun c_32 => ?_) (fun c_32 => ?_)
    · refine j_iconst (pc := 39) dX2_open_39 rfl ?_
      refine j_callV (pc := 40) (m_asked2 σ (bI (0 ≤ p ∧ p ≤ σ.1 9 - 1)) 0 (bI_01 _) (Or.inl rfl)) (lw_V q1538 q1540 qs20 q48 q1541) rfl md_yX2_asked (RC.ofM _ rfl) (by decide) (by decide) rfl (Nat.le_of_ble_eq_true rfl) dX2_open_40 (qI.k (fun r_40 s_40 q_40 => ?_))
      rcases q_40 with ⟨q_40a, rfl, rfl⟩ | ⟨q_40a, rfl, rfl⟩
      · exact absurd q_40a (by simp)
      · have q_40_0 := bI_or ((0 ≤ p ∧ p ≤ σ.1 9 - 1))
        refine j_if_ne (pc := 43) (tgt := 48) dX2_open_43 (by decide) (by decide) (fun c_43 => ?_) (fun c_43 => ?_)
        · exact absurd c_43 (by decide)
        · refine j_iconst (pc := 46) dX2_open_46 rfl ?_
          refine j_iret (pc := 47) rfl (hQ _ _ ?_) dX2_open_47
          exact Or.inr ⟨by unfold t2; (repeat' split) <;> omega, rfl, by congr 1; unfold t2; (repeat' split) <;> omega⟩
    · exact absurd c_32 (by decide)
  · refine j_aload_n (pc := 10) dX2_open_10 rfl ?_
    refine m_getI (pc := 11) (v := σ.1 14) fa_X2_41_X2 (by decide) rfl rfl dX2_open_11 ?_
    have n_1 : 0 ≤ σ.1 14 ∧ σ.1 14 ≤ 5 := hB.1 14
    refine j_iconst (pc := 14) dX2_open_14 rfl ?_
    refine j_icmp_ne (pc := 15) (tgt := 26) dX2_open_15 (by decide) (by omega) (by decide) (fun c_15 => ?_) (fun c_15 => ?_)
    · refine j_iconst (pc := 26) dX2_open_26 rfl ?_
      refine j_istore_n (pc := 27) dX2_open_27 (by decide) (lo' := [some (.ref o), some (IV p), some (IV (bI (0 ≤ p ∧ p ≤ σ.1 9 - 1))), some (IV (-1))]) rfl ?_
      refine j_aload_n (pc := 28) dX2_open_28 rfl ?_
      refine j_iload_n (pc := 29) dX2_open_29 rfl ?_
      refine j_iload_n (pc := 30) dX2_open_30 rfl ?_
      refine j_iconst (pc := 31) dX2_open_31 rfl ?_
      refine j_icmp_eq (pc := 32) (tgt := 39) dX2_open_32 (by decide) (by decide) (by decide) (fun c_32_1 => ?_) (fun c_32_1 => ?_)
      · refine j_iconst (pc := 39) dX2_open_39 rfl ?_
        refine j_callV (pc := 40) (m_asked2 σ (bI (0 ≤ p ∧ p ≤ σ.1 9 - 1)) 0 (bI_01 _) (Or.inl rfl)) (lw_V q1538 q1540 qs20 q48 q1541) rfl md_yX2_asked (RC.ofM _ rfl) (by decide) (by decide) rfl (Nat.le_of_ble_eq_true rfl) dX2_open_40 (qI.k (fun r_40_1 s_40_1 q_40_1 => ?_))
        rcases q_40_1 with ⟨q_40_1a, rfl, rfl⟩ | ⟨q_40_1a, rfl, rfl⟩
        · exact absurd q_40_1a (by simp)
        · have q_40_1_0 := bI_or ((0 ≤ p ∧ p ≤ σ.1 9 - 1))
          refine j_if_ne (pc := 43) (tgt := 48) dX2_open_43 (by decide) (by decide) (fun c_43_1 => ?_) (fun c_43_1 => ?_)
          · exact absurd c_43_1 (by decide)
          · refine j_iconst (pc := 46) dX2_open_46 rfl ?_
            refine j_iret (pc := 47) rfl (hQ _ _ ?_) dX2_open_47
            exact Or.inr ⟨by unfold t2; (repeat' split) <;> omega, rfl, by congr 1; unfold t2; (repeat' split) <;> omega⟩
      · exact absurd c_32_1 (by decide)
    · refine j_aload_n (pc := 18) dX2_open_18 rfl ?_
      refine j_iload_n (pc := 19) dX2_open_19 rfl ?_
      refine j_callV (pc := 20) (m_sealedOf σ p (by omega) hB) (lw_V q1598 q1600 qs29 q48 q1601) rfl md_yX2_sealedOf (RC.ofM _ rfl) (by decide) (by decide) rfl (Nat.le_of_ble_eq_true rfl) dX2_open_20 (qI.k (fun r_20 s_20 q_20 => ?_))
      obtain ⟨e1q_20, e2q_20⟩ := q_20
      subst r_20
      subst s_20
      refine j_goto (pc := 23) (tgt := 27) dX2_open_23 (by decide) ?_
      refine j_istore_n (pc := 27) dX2_open_27 (by decide) (lo' := [some (.ref o), some (IV p), some (IV (bI (0 ≤ p ∧ p ≤ σ.1 9 - 1))), some (IV (sSealed σ p (σ.1 26).toNat))]) rfl ?_
      refine j_aload_n (pc := 28) dX2_open_28 rfl ?_
      refine j_iload_n (pc := 29) dX2_open_29 rfl ?_
      refine j_iload_n (pc := 30) dX2_open_30 rfl ?_
      refine j_iconst (pc := 31) dX2_open_31 rfl ?_
      refine j_icmp_eq (pc := 32) (tgt := 39) dX2_open_32 (by decide) (by omega) (by decide) (fun c_32_1 => ?_) (fun c_32_1 => ?_)
      · refine j_iconst (pc := 39) dX2_open_39 rfl ?_
        refine j_callV (pc := 40) (m_asked2 σ (bI (0 ≤ p ∧ p ≤ σ.1 9 - 1)) 0 (bI_01 _) (Or.inl rfl)) (lw_V q1538 q1540 qs20 q48 q1541) rfl md_yX2_asked (RC.ofM _ rfl) (by decide) (by decide) rfl (Nat.le_of_ble_eq_true rfl) dX2_open_40 (qI.k (fun r_40_1 s_40_1 q_40_1 => ?_))
        rcases q_40_1 with ⟨q_40_1a, rfl, rfl⟩ | ⟨q_40_1a, rfl, rfl⟩
        · exact absurd q_40_1a (by simp)
        · have q_40_1_0 := bI_or ((0 ≤ p ∧ p ≤ σ.1 9 - 1))
          refine j_if_ne (pc := 43) (tgt := 48) dX2_open_43 (by decide) (by decide) (fun c_43_1 => ?_) (fun c_43_1 => ?_)
          · exact absurd c_43_1 (by decide)
          · refine j_iconst (pc := 46) dX2_open_46 rfl ?_
            refine j_iret (pc := 47) rfl (hQ _ _ ?_) dX2_open_47
            exact Or.inr ⟨by unfold t2; (repeat' split) <;> omega, rfl, by congr 1; unfold t2; (repeat' split) <;> omega⟩
      · refine j_iconst (pc := 35) dX2_open_35 rfl ?_
        refine j_goto (pc := 36) (tgt := 40) dX2_open_36 (by decide) ?_
        refine j_callV (pc := 40) (m_asked2 σ (bI (0 ≤ p ∧ p ≤ σ.1 9 - 1)) 1 (bI_01 _) (Or.inr rfl)) (lw_V q1538 q1540 qs20 q48 q1541) rfl md_yX2_asked (RC.ofM _ rfl) (by decide) (by decide) rfl (Nat.le_of_ble_eq_true rfl) dX2_open_40 (qI.k (fun r_40_1 s_40_1 q_40_1 => ?_))
        rcases q_40_1 with ⟨q_40_1a, rfl, rfl⟩ | ⟨q_40_1a, rfl, rfl⟩
        · have q_40_1_0 := bI_or ((0 ≤ p ∧ p ≤ σ.1 9 - 1))
          refine j_if_ne (pc := 43) (tgt := 48) dX2_open_43 (by decide) (by decide) (fun c_43_1 => ?_) (fun c_43_1 => ?_)
          · have rz := sSealed_some (σ.1 26).toNat (by omega : sSealed σ p (σ.1 26).toNat ≠ -1)
            have ro : σ.2 20 p.toNat ≠ -1 := by have h9 := (hI.2.2.2.2.2.1 (sSealed σ p (σ.1 26).toNat).toNat (by omega)).2; rw [rz.1] at h9; exact h9
            have rv : σ.2 22 p.toNat = 0 := by have h9 := hI.2.2.2.2.2.2.1 (sSealed σ p (σ.1 26).toNat).toNat (by omega) rz.2; rw [rz.1] at h9; exact h9
            have rc := hI.casts_le (p := p) (by omega) ro rv
            refine j_aload_n (pc := 48) dX2_open_48 rfl ?_
            refine m_getA (pc := 49) fa_X2_63_X2 (by decide) (by decide) dX2_open_49 ?_
            refine j_iload_n (pc := 52) dX2_open_52 rfl ?_
            refine j_iconst (pc := 53) dX2_open_53 rfl ?_
            refine m_st (pc := 54) (by decide) (by decide) rfl (by show 0 ≤ sSealed σ p (σ.1 26).toNat ∧ sSealed σ p (σ.1 26).toNat < ((60 : Nat) : Int); omega) dX2_open_54 ?_
            refine j_aload_n (pc := 55) dX2_open_55 rfl ?_
            refine j_iload_n (pc := 56) dX2_open_56 rfl ?_
            refine j_aload_n (pc := 57) dX2_open_57 rfl ?_
            refine m_getA (pc := 58) fa_X2_60_X2 (by decide) (by decide) dX2_open_58 ?_
            refine j_iload_n (pc := 61) dX2_open_61 rfl ?_
            refine m_ld (pc := 62) (v := σ.2 24 (sSealed σ p (σ.1 26).toNat).toNat) (by decide) (by decide) rfl (by show 0 ≤ sSealed σ p (σ.1 26).toNat ∧ sSealed σ p (σ.1 26).toNat < ((60 : Nat) : Int); omega) rfl dX2_open_62 ?_
            have n_2 : 0 ≤ σ.2 24 (sSealed σ p (σ.1 26).toNat).toNat ∧ σ.2 24 (sSealed σ p (σ.1 26).toNat).toNat ≤ 5 := hB.2 24 ((sSealed σ p (σ.1 26).toNat).toNat)
            refine j_callV (pc := 63) (m_casts (setA (setI σ 43 0) 25 (sSealed σ p (σ.1 26).toNat).toNat 2) p (σ.2 24 (sSealed σ p (σ.1 26).toNat).toNat) (by omega) (Bd.a (Bd.i hB (by show 0 ≤ 0 ∧ 0 ≤ (3 : Int); omega)) (by show (0 : Int) ≤ 2 ∧ 2 ≤ (2 : Int); omega)) (by show 0 ≤ σ.2 20 p.toNat; exact rc.1) (by show σ.2 28 (σ.2 20 p.toNat).toNat ≤ 19; exact rc.2)) (lw_V q1634 q1636 qs34 q48 q1637) rfl md_yX2_casts (RC.ofM _ rfl) (by decide) (by decide) rfl (Nat.le_of_ble_eq_true rfl) dX2_open_63 (qI.k (fun r_63 s_63 q_63 => ?_))
            obtain ⟨e1q_63, e2q_63⟩ := q_63
            subst r_63
            subst s_63
            refine j_pop (pc := 66) dX2_open_66 rfl ?_
            refine j_aload_n (pc := 67) dX2_open_67 rfl ?_
            refine j_aload_n (pc := 68) dX2_open_68 rfl ?_
            refine m_getI (pc := 69) (v := σ.1 0) fa_X2_149_X2 (by decide) rfl rfl dX2_open_69 ?_
            have n_3 : 0 ≤ σ.1 0 ∧ σ.1 0 ≤ 2100 := hB.1 0
            refine j_bipush (pc := 72) (a := 111) dX2_open_72 (by decide) ?_
            refine j_iload_n (pc := 74) dX2_open_74 rfl ?_
            refine j_callV (pc := 75) (m_notes (sCasts (setA (setI σ 43 0) 25 (sSealed σ p (σ.1 26).toNat).toNat 2) p (σ.2 24 (sSealed σ p (σ.1 26).toNat).toNat)) (σ.1 0) 111 p (show 0 ≤ σ.1 42 ∧ σ.1 42 < 1000 by omega)) (lw_V q1602 q1604 qs30 q48 q1605) rfl md_yX2_notes (RC.ofM _ rfl) (by decide) (by decide) rfl (Nat.le_of_ble_eq_true rfl) dX2_open_75 (qV.k (fun s_75 q_75 => ?_))
            obtain rfl := q_75
            refine j_iload_n (pc := 78) dX2_open_78 rfl ?_
            refine j_iret (pc := 79) rfl (hQ _ _ ?_) dX2_open_79
            exact Or.inl ⟨by unfold t2; (repeat' split) <;> omega, rfl, rfl⟩
          · exact absurd c_43_1 (by decide)
        · have q_40_1_0 := bI_or ((0 ≤ p ∧ p ≤ σ.1 9 - 1))
          refine j_if_ne (pc := 43) (tgt := 48) dX2_open_43 (by decide) (by decide) (fun c_43_1 => ?_) (fun c_43_1 => ?_)
          · exact absurd c_43_1 (by decide)
          · refine j_iconst (pc := 46) dX2_open_46 rfl ?_
            refine j_iret (pc := 47) rfl (hQ _ _ ?_) dX2_open_47
            exact Or.inr ⟨by unfold t2; (repeat' split) <;> omega, rfl, by congr 1; unfold t2; (repeat' split) <;> omega⟩

theorem md_yX2_stationFor : MD yX2_stationFor 0 := by decide +kernel
set_option maxHeartbeats 4000000 in
theorem m_makesRoll {Γ : GG} {l : Launch} {o : Nat} {ad : Nat → Nat} (σ : MM) (hP : RollPre σ) : Ct Γ (AM o ad) (RepM Γ o ad) l yX2_makesRoll (ws_ yX2_makesRoll cX2_makesRoll 2 none) 4 0 0 [.ref o] σ (qV (fun (σ' : MM) => σ' = sRoll σ)) X0 := by
  refine Ct.ofJ (own := RX2) (nm := "makesRoll") (lo := [some (.ref o), none]) pn_X2 rfl rfl (List.forall_mem_cons.mpr ⟨rfl, (fun _ h => nomatch h)⟩) (Nat.le_of_ble_eq_true rfl) rfl ?_
  have hQ : ∀ (σ' : MM), (σ' = sRoll σ) → (qV (fun (σ' : MM) => σ' = sRoll σ)) none σ' := fun σ' h => ⟨rfl, h⟩
  generalize (qV (fun (σ' : MM) => σ' = sRoll σ)) = QP at hQ ⊢
  have n9 : 0 ≤ σ.1 9 ∧ σ.1 9 ≤ 20 := hP.1.1 9
  refine j_aload_n (pc := 0) dX2_makesRoll_0 rfl ?_
  refine j_iconst (pc := 1) dX2_makesRoll_1 rfl ?_
  refine m_putI (pc := 2) fp_X2_41_X2 (by decide) rfl dX2_makesRoll_2 ?_
  refine j_aload_n (pc := 5) dX2_makesRoll_5 rfl ?_
  refine j_aload_n (pc := 6) dX2_makesRoll_6 rfl ?_
  refine m_getI (pc := 7) (v := σ.1 6) fa_X2_115_X2 (by decide) rfl rfl dX2_makesRoll_7 ?_
  have n_1 : 0 ≤ σ.1 6 ∧ σ.1 6 ≤ 5 := hP.1.1 6
  refine m_putI (pc := 10) fp_X2_178_X2 (by decide) rfl dX2_makesRoll_10 ?_
  refine j_iconst (pc := 13) dX2_makesRoll_13 rfl ?_
  refine j_istore_n (pc := 14) dX2_makesRoll_14 (by decide) (lo' := [some (.ref o), some (IV 0)]) rfl ?_
  have hl_15 : ∀ (fu : Nat) (k : Nat) (s : MM), (σ.1 9).toNat - k < fu → (k : Int) ≤ σ.1 9 → s = sRollN σ k → J Γ (AM o ad) (RepM Γ o ad) l RX2 "makesRoll" cX2_makesRoll 2 none [] 4 0 0 QP X0 0 0 s 15 [some (.ref o), some (IV (k : Int))] [] := by
    intro fu
    induction fu with
    | zero => intro k s hm; exact absurd hm (Nat.not_lt_zero _)
    | succ fu ih_15 =>
      intro k s hm hk hs
      have hr := rollI hP k (by omega) (by omega)
      rw [← hs] at hr
      have f9 : s.1 9 = σ.1 9 := by rw [hs, (sRollN_fr σ 10 (by decide) k).1]; rfl
      have f15 : s.1 15 = σ.1 15 := by rw [hs, (sRollN_fr σ 10 (by decide) k).1]; rfl
      have fc : sDwelt s k (s.1 15 - 7) (s.1 13).toNat = sDwelt σ k (σ.1 15 - 7) (σ.1 13).toNat := by have h9 := sRollC_eq σ k k; rw [← hs] at h9; exact h9
      have fd := sDwelt_rng hP.1 k (σ.1 15 - 7) (σ.1 13).toNat
      refine j_iload_n (pc := 15) dX2_makesRoll_15 rfl ?_
      refine j_aload_n (pc := 16) dX2_makesRoll_16 rfl ?_
      refine m_getI (pc := 17) (v := s.1 9) fa_X2_118_X2 (by decide) rfl rfl dX2_makesRoll_17 ?_
      have n_2 : 0 ≤ s.1 9 ∧ s.1 9 ≤ 20 := hr.1.1 9
      refine j_icmp_ge (pc := 20) (tgt := 92) dX2_makesRoll_20 (by decide) (by omega) (by omega) (fun c_20 => ?_) (fun c_20 => ?_)
      · have hk9 : k = (σ.1 9).toNat := by omega
        rw [hk9] at hs
        refine j_vret (pc := 92) rfl (hQ _ ?_) dX2_makesRoll_92
        exact hs
      · refine j_aload_n (pc := 23) dX2_makesRoll_23 rfl ?_
        refine m_getA (pc := 24) fa_X2_29_X2 (by decide) (by decide) dX2_makesRoll_24 ?_
        refine j_iload_n (pc := 27) dX2_makesRoll_27 rfl ?_
        refine m_zld (pc := 28) (v := s.2 8 k) (by decide) (by decide) rfl (by show 0 ≤ (k : Int) ∧ (k : Int) < ((20 : Nat) : Int); omega) rfl dX2_makesRoll_28 ?_
        have n_3 : 0 ≤ s.2 8 k ∧ s.2 8 k ≤ 1 := hr.1.2 8 k
        refine j_if_ne (pc := 29) (tgt := 86) dX2_makesRoll_29 (by decide) (by omega) (fun c_29 => ?_) (fun c_29 => ?_)
        · refine j_iinc (pc := 86) dX2_makesRoll_86 rfl (by decide) (lo' := [some (.ref o), some (IV ((k : Int) + 1))]) rfl ?_
          refine j_goto (pc := 89) (tgt := 15) dX2_makesRoll_89 (by decide) ?_
          exact ih_15 (k + 1) s (by omega) (by omega) (by show s = sRollStep (sRollN σ k) k; rw [← hs]; unfold sRollStep; rw [if_neg (by omega)])
        · refine j_aload_n (pc := 32) dX2_makesRoll_32 rfl ?_
          refine m_getA (pc := 33) fa_X2_26_X2 (by decide) (by decide) dX2_makesRoll_33 ?_
          refine j_iload_n (pc := 36) dX2_makesRoll_36 rfl ?_
          refine m_ld (pc := 37) (v := s.2 7 k) (by decide) (by decide) rfl (by show 0 ≤ (k : Int) ∧ (k : Int) < ((20 : Nat) : Int); omega) rfl dX2_makesRoll_37 ?_
          have n_4 : 0 ≤ s.2 7 k ∧ s.2 7 k ≤ 2000 := hr.1.2 7 k
          refine j_aload_n (pc := 38) dX2_makesRoll_38 rfl ?_
          refine m_getI (pc := 39) (v := s.1 15) fa_X2_181_X2 (by decide) rfl rfl dX2_makesRoll_39 ?_
          have n_5 : 0 ≤ s.1 15 ∧ s.1 15 ≤ 2000 := hr.1.1 15
          refine j_icmp_gt (pc := 42) (tgt := 86) dX2_makesRoll_42 (by decide) (by omega) (by omega) (fun c_42 => ?_) (fun c_42 => ?_)
          · refine j_iinc (pc := 86) dX2_makesRoll_86 rfl (by decide) (lo' := [some (.ref o), some (IV ((k : Int) + 1))]) rfl ?_
            refine j_goto (pc := 89) (tgt := 15) dX2_makesRoll_89 (by decide) ?_
            exact ih_15 (k + 1) s (by omega) (by omega) (by show s = sRollStep (sRollN σ k) k; rw [← hs]; unfold sRollStep; rw [if_neg (by omega)])
          · have fe := hP.2.2 k (by omega)
            refine j_aload_n (pc := 45) dX2_makesRoll_45 rfl ?_
            refine j_aload_n (pc := 46) dX2_makesRoll_46 rfl ?_
            refine j_iload_n (pc := 47) dX2_makesRoll_47 rfl ?_
            refine j_aload_n (pc := 48) dX2_makesRoll_48 rfl ?_
            refine m_getI (pc := 49) (v := s.1 15) fa_X2_181_X2 (by decide) rfl rfl dX2_makesRoll_49 ?_
            refine j_bipush (pc := 52) (a := 7) dX2_makesRoll_52 (by decide) ?_
            refine j_isub (pc := 54) dX2_makesRoll_54 ?_
            refine j_callV (pc := 55) (m_dwelt s (k : Int) ((s.1 15) - 7) (by omega) (by omega) hr.1) (lw_V q1586 q1588 qs27 q48 q1589) rfl md_yX2_dwelt (RC.ofM _ rfl) (by decide) (by decide) rfl (Nat.le_of_ble_eq_true rfl) dX2_makesRoll_55 (qI.k (fun r_55 s_55 q_55 => ?_))
            obtain ⟨e1q_55, e2q_55⟩ := q_55
            subst r_55
            subst s_55
            refine j_callV (pc := 58) (m_finds s (sDwelt s (k : Int) ((s.1 15) - 7) (s.1 13).toNat) (by omega) hr.1) (lw_V q1550 q1552 qs22 q48 q1553) rfl md_yX2_finds (RC.ofM _ rfl) (by decide) (by decide) rfl (Nat.le_of_ble_eq_true rfl) dX2_makesRoll_58 (qV.k (fun s_58 q_58 => ?_))
            obtain ⟨eq_58, bq_58⟩ := q_58
            subst s_58
            have hF := sFor_rng bq_58
            refine j_aload_n (pc := 61) dX2_makesRoll_61 rfl ?_
            refine m_getA (pc := 62) fa_X2_48_X2 (by decide) (by decide) dX2_makesRoll_62 ?_
            refine j_iload_n (pc := 65) dX2_makesRoll_65 rfl ?_
            refine j_aload_n (pc := 66) dX2_makesRoll_66 rfl ?_
            refine j_callV (pc := 67) (m_stationFor (sFinds s (sDwelt s (k : Int) ((s.1 15) - 7) (s.1 13).toNat))  bq_58) (lw_V q1626 q1628 qs32 q48 q1629) rfl md_yX2_stationFor (RC.ofM _ rfl) (by decide) (by decide) rfl (Nat.le_of_ble_eq_true rfl) dX2_makesRoll_67 (qI.k (fun r_67 s_67 q_67 => ?_))
            obtain ⟨e1q_67, e2q_67⟩ := q_67
            subst r_67
            subst s_67
            refine m_st (pc := 70) (by decide) (by decide) rfl (by show 0 ≤ (k : Int) ∧ (k : Int) < ((20 : Nat) : Int); omega) dX2_makesRoll_70 ?_
            refine j_aload_n (pc := 71) dX2_makesRoll_71 rfl ?_
            refine m_getA (pc := 72) fa_X2_51_X2 (by decide) (by decide) dX2_makesRoll_72 ?_
            refine j_aload_n (pc := 75) dX2_makesRoll_75 rfl ?_
            refine m_getA (pc := 76) fa_X2_48_X2 (by decide) (by decide) dX2_makesRoll_76 ?_
            refine j_iload_n (pc := 79) dX2_makesRoll_79 rfl ?_
            refine m_ld (pc := 80) (v := sFor (sFinds s (sDwelt s (k : Int) ((s.1 15) - 7) (s.1 13).toNat))) (by decide) (by decide) rfl (by show 0 ≤ (k : Int) ∧ (k : Int) < ((20 : Nat) : Int); omega) (by simp [setA_2, setI_2, uA_ap]) dX2_makesRoll_80 ?_
            refine j_dup2 (pc := 81) dX2_makesRoll_81 rfl rfl ?_
            refine m_ld (pc := 82) (v := (sFinds s (sDwelt s (k : Int) ((s.1 15) - 7) (s.1 13).toNat)).2 21 (sFor (sFinds s (sDwelt s (k : Int) ((s.1 15) - 7) (s.1 13).toNat))).toNat) (by decide) (by decide) rfl (by show 0 ≤ sFor (sFinds s (sDwelt s (k : Int) ((s.1 15) - 7) (s.1 13).toNat)) ∧ sFor (sFinds s (sDwelt s (k : Int) ((s.1 15) - 7) (s.1 13).toNat)) < ((5 : Nat) : Int); omega) rfl dX2_makesRoll_82 ?_
            refine j_iconst (pc := 83) dX2_makesRoll_83 rfl ?_
            refine j_iadd (pc := 84) dX2_makesRoll_84 ?_
            refine m_st (pc := 85) (by decide) (by decide) rfl (by show 0 ≤ sFor (sFinds s (sDwelt s (k : Int) ((s.1 15) - 7) (s.1 13).toNat)) ∧ sFor (sFinds s (sDwelt s (k : Int) ((s.1 15) - 7) (s.1 13).toNat)) < ((5 : Nat) : Int); omega) dX2_makesRoll_85 ?_
            refine j_iinc (pc := 86) dX2_makesRoll_86 rfl (by decide) (lo' := [some (.ref o), some (IV ((k : Int) + 1))]) rfl ?_
            refine j_goto (pc := 89) (tgt := 15) dX2_makesRoll_89 (by decide) ?_
            exact ih_15 (k + 1) (setA (setA (sFinds s (sDwelt s (k : Int) ((s.1 15) - 7) (s.1 13).toNat)) 20 k (sFor (sFinds s (sDwelt s (k : Int) ((s.1 15) - 7) (s.1 13).toNat)))) 21 (sFor (sFinds s (sDwelt s (k : Int) ((s.1 15) - 7) (s.1 13).toNat))).toNat (((sFinds s (sDwelt s (k : Int) ((s.1 15) - 7) (s.1 13).toNat)).2 21 (sFor (sFinds s (sDwelt s (k : Int) ((s.1 15) - 7) (s.1 13).toNat))).toNat) + 1)) (by omega) (by omega) (by show _ = sRollStep (sRollN σ k) k; rw [← hs]; unfold sRollStep; rw [if_pos ⟨by omega, by omega⟩]; rfl)
  exact hl_15 _ 0 (setI (setI σ 14 2) 19 (σ.1 6)) (Nat.lt_succ_self _) (by omega) rfl

set_option maxHeartbeats 4000000 in
theorem m_closes {Γ : GG} {l : Launch} {o : Nat} {ad : Nat → Nat} (σ : MM) (hI : In (setI σ 14 4)) (hn : σ.1 42 ≤ 900) : Ct Γ (AM o ad) (RepM Γ o ad) l yX2_closes (ws_ yX2_closes cX2_closes 2 none) 2 0 0 [.ref o] σ (qV (fun (σ' : MM) => σ' = sCloses σ)) X0 := by
  refine Ct.ofJ (own := RX2) (nm := "closes") (lo := [some (.ref o), none]) pn_X2 rfl rfl (List.forall_mem_cons.mpr ⟨rfl, (fun _ h => nomatch h)⟩) (Nat.le_of_ble_eq_true rfl) rfl ?_
  have hQ : ∀ (σ' : MM), (σ' = sCloses σ) → (qV (fun (σ' : MM) => σ' = sCloses σ)) none σ' := fun σ' h => ⟨rfl, h⟩
  generalize (qV (fun (σ' : MM) => σ' = sCloses σ)) = QP at hQ ⊢
  have n26 : 0 ≤ σ.1 26 ∧ σ.1 26 ≤ 60 := hI.1.1 26
  refine j_aload_n (pc := 0) dX2_closes_0 rfl ?_
  refine j_iconst (pc := 1) dX2_closes_1 rfl ?_
  refine m_putI (pc := 2) fp_X2_41_X2 (by decide) rfl dX2_closes_2 ?_
  refine j_iconst (pc := 5) dX2_closes_5 rfl ?_
  refine j_istore_n (pc := 6) dX2_closes_6 (by decide) (lo' := [some (.ref o), some (IV 0)]) rfl ?_
  have hl_7 : ∀ (fu : Nat) (k : Nat) (s : MM), (σ.1 26).toNat - k < fu → (k : Int) ≤ σ.1 26 → s = sClN σ k → J Γ (AM o ad) (RepM Γ o ad) l RX2 "closes" cX2_closes 2 none [] 2 0 0 QP X0 0 0 s 7 [some (.ref o), some (IV (k : Int))] [] := by
    intro fu
    induction fu with
    | zero => intro k s hm; exact absurd hm (Nat.not_lt_zero _)
    | succ fu ih_7 =>
      intro k s hm hk hs
      have hi := sClN_In hI hn k hk
      rw [← hs] at hi
      have f26 : s.1 26 = σ.1 26 := hi.2.1 26 (by decide)
      have f42 := hi.2.2
      have g42 : 0 ≤ s.1 42 := (hi.1.1.1 42).1
      have f15 : 0 ≤ s.1 15 ∧ s.1 15 ≤ 2000 := hi.1.1.1 15
      refine j_iload_n (pc := 7) dX2_closes_7 rfl ?_
      refine j_aload_n (pc := 8) dX2_closes_8 rfl ?_
      refine m_getI (pc := 9) (v := s.1 26) fa_X2_165_X2 (by decide) rfl rfl dX2_closes_9 ?_
      have n_1 : 0 ≤ s.1 26 ∧ s.1 26 ≤ 60 := hi.1.1.1 26
      refine j_icmp_ge (pc := 12) (tgt := 70) dX2_closes_12 (by decide) (by omega) (by omega) (fun c_12 => ?_) (fun c_12 => ?_)
      · have hk9 : k = (σ.1 26).toNat := by omega
        rw [hk9] at hs
        refine j_vret (pc := 70) rfl (hQ _ ?_) dX2_closes_70
        exact hs
      · refine j_aload_n (pc := 15) dX2_closes_15 rfl ?_
        refine m_getA (pc := 16) fa_X2_63_X2 (by decide) (by decide) dX2_closes_16 ?_
        refine j_iload_n (pc := 19) dX2_closes_19 rfl ?_
        refine m_ld (pc := 20) (v := s.2 25 k) (by decide) (by decide) rfl (by show 0 ≤ (k : Int) ∧ (k : Int) < ((60 : Nat) : Int); omega) rfl dX2_closes_20 ?_
        have n_2 : 0 ≤ s.2 25 k ∧ s.2 25 k ≤ 2 := hi.1.1.2 25 k
        refine j_if_ne (pc := 21) (tgt := 64) dX2_closes_21 (by decide) (by omega) (fun c_21 => ?_) (fun c_21 => ?_)
        · refine j_iinc (pc := 64) dX2_closes_64 rfl (by decide) (lo' := [some (.ref o), some (IV ((k : Int) + 1))]) rfl ?_
          refine j_goto (pc := 67) (tgt := 7) dX2_closes_67 (by decide) ?_
          exact ih_7 (k + 1) s (by omega) (by omega) (by show s = sClStep (sClN σ k) k; rw [← hs]; unfold sClStep; rw [if_neg (by omega)])
        · have q4 := hi.1.2.2.2.2.2.1 k (by omega)
          have q5 := hi.1.2.2.2.2.2.2.1 k (by omega) c_21
          have e23 : 0 ≤ s.2 23 k ∧ s.2 23 k ≤ 19 := hi.1.1.2 23 k
          have e24 : 0 ≤ s.2 24 k ∧ s.2 24 k ≤ 5 := hi.1.1.2 24 k
          have rc := hi.1.casts_le (p := s.2 23 k) e23 q4.2 q5
          refine j_aload_n (pc := 24) dX2_closes_24 rfl ?_
          refine m_getA (pc := 25) fa_X2_63_X2 (by decide) (by decide) dX2_closes_25 ?_
          refine j_iload_n (pc := 28) dX2_closes_28 rfl ?_
          refine j_iconst (pc := 29) dX2_closes_29 rfl ?_
          refine m_st (pc := 30) (by decide) (by decide) rfl (by show 0 ≤ (k : Int) ∧ (k : Int) < ((60 : Nat) : Int); omega) dX2_closes_30 ?_
          refine j_aload_n (pc := 31) dX2_closes_31 rfl ?_
          refine j_aload_n (pc := 32) dX2_closes_32 rfl ?_
          refine m_getA (pc := 33) fa_X2_57_X2 (by decide) (by decide) dX2_closes_33 ?_
          refine j_iload_n (pc := 36) dX2_closes_36 rfl ?_
          refine m_ld (pc := 37) (v := s.2 23 k) (by decide) (by decide) rfl (by show 0 ≤ (k : Int) ∧ (k : Int) < ((60 : Nat) : Int); omega) rfl dX2_closes_37 ?_
          have n_3 : 0 ≤ s.2 23 k ∧ s.2 23 k ≤ 19 := hi.1.1.2 23 k
          refine j_aload_n (pc := 38) dX2_closes_38 rfl ?_
          refine m_getA (pc := 39) fa_X2_60_X2 (by decide) (by decide) dX2_closes_39 ?_
          refine j_iload_n (pc := 42) dX2_closes_42 rfl ?_
          refine m_ld (pc := 43) (v := s.2 24 k) (by decide) (by decide) rfl (by show 0 ≤ (k : Int) ∧ (k : Int) < ((60 : Nat) : Int); omega) rfl dX2_closes_43 ?_
          have n_4 : 0 ≤ s.2 24 k ∧ s.2 24 k ≤ 5 := hi.1.1.2 24 k
          refine j_callV (pc := 44) (m_casts (setA s 25 k 2) (s.2 23 k) (s.2 24 k) (by omega) (Bd.a hi.1.1 (by show (0 : Int) ≤ 2 ∧ 2 ≤ (2 : Int); omega)) (by show 0 ≤ s.2 20 (s.2 23 k).toNat; exact rc.1) (by show s.2 28 (s.2 20 (s.2 23 k).toNat).toNat ≤ 19; exact rc.2)) (lw_V q1634 q1636 qs34 q48 q1637) rfl md_yX2_casts (RC.ofM _ rfl) (by decide) (by decide) rfl (Nat.le_of_ble_eq_true rfl) dX2_closes_44 (qI.k (fun r_44 s_44 q_44 => ?_))
          obtain ⟨e1q_44, e2q_44⟩ := q_44
          subst r_44
          subst s_44
          refine j_pop (pc := 47) dX2_closes_47 rfl ?_
          refine j_aload_n (pc := 48) dX2_closes_48 rfl ?_
          refine j_aload_n (pc := 49) dX2_closes_49 rfl ?_
          refine m_getI (pc := 50) (v := s.1 15) fa_X2_181_X2 (by decide) rfl rfl dX2_closes_50 ?_
          have n_5 : 0 ≤ s.1 15 ∧ s.1 15 ≤ 2000 := hi.1.1.1 15
          refine j_bipush (pc := 53) (a := 115) dX2_closes_53 (by decide) ?_
          refine j_aload_n (pc := 55) dX2_closes_55 rfl ?_
          refine m_getA (pc := 56) fa_X2_57_X2 (by decide) (by decide) dX2_closes_56 ?_
          refine j_iload_n (pc := 59) dX2_closes_59 rfl ?_
          refine m_ld (pc := 60) (v := s.2 23 k) (by decide) (by decide) rfl (by show 0 ≤ (k : Int) ∧ (k : Int) < ((60 : Nat) : Int); omega) rfl dX2_closes_60 ?_
          refine j_callV (pc := 61) (m_notes (sCasts (setA s 25 k 2) (s.2 23 k) (s.2 24 k)) (s.1 15) 115 (s.2 23 k) (show 0 ≤ s.1 42 ∧ s.1 42 < 1000 by omega)) (lw_V q1602 q1604 qs30 q48 q1605) rfl md_yX2_notes (RC.ofM _ rfl) (by decide) (by decide) rfl (Nat.le_of_ble_eq_true rfl) dX2_closes_61 (qV.k (fun s_61 q_61 => ?_))
          obtain rfl := q_61
          refine j_iinc (pc := 64) dX2_closes_64 rfl (by decide) (lo' := [some (.ref o), some (IV ((k : Int) + 1))]) rfl ?_
          refine j_goto (pc := 67) (tgt := 7) dX2_closes_67 (by decide) ?_
          exact ih_7 (k + 1) (sNote (sCasts (setA s 25 k 2) (s.2 23 k) (s.2 24 k)) (s.1 15) 115 (s.2 23 k)) (by omega) (by omega) (by show _ = sClStep (sClN σ k) k; rw [← hs]; unfold sClStep; rw [if_pos (by omega)] <;> rfl)
  exact hl_7 _ 0 (setI σ 14 4) (Nat.lt_succ_self _) (by omega) rfl

theorem fp_X2_149_X2 : FP RX2 149 1 0 (.int) false := ⟨RX2, TX2, 44, "BallotFoundryModel", tyX2, rfl, in_X2, by decide, q1388, Or.inl rfl, tyX2_ok, nmX2, rfl, rfl, fun h => nomatch h⟩
theorem md_yX2_closes : MD yX2_closes 0 := by decide +kernel
theorem md_yX2_makesRoll : MD yX2_makesRoll 0 := by decide +kernel
set_option maxHeartbeats 4000000 in
theorem m_advance {Γ : GG} {l : Launch} {o : Nat} {ad : Nat → Nat} (σ : MM) (n : Int) (hn : RR n) {T : Nat} (hT : T ≤ 64) (hI : In σ) (hN : NB σ T) (hB : Bd σ) : Ct Γ (AM o ad) (RepM Γ o ad) l yX2_advance (ws_ yX2_advance cX2_advance 4 (some .int)) 6 0 0 [.ref o, IV n] σ (qI (fun (r : Int) (σ' : MM) => oEnd σ (t2 (1 ≤ n ∧ n ≤ 100) (σ.1 0 + n ≤ 2100)) (σ.1 0 + n) (sAdv (σ0 σ) n.toNat) r σ')) X0 := by
  refine Ct.ofJ (own := RX2) (nm := "advance") (lo := [some (.ref o), some (IV n), none, none]) pn_X2 rfl rfl (List.forall_mem_cons.mpr ⟨rfl, (List.forall_mem_cons.mpr ⟨rfl, (fun _ h => nomatch h)⟩)⟩) (Nat.le_of_ble_eq_true rfl) rfl ?_
  have hQ : ∀ (r : Int) (σ' : MM), (oEnd σ (t2 (1 ≤ n ∧ n ≤ 100) (σ.1 0 + n ≤ 2100)) (σ.1 0 + n) (sAdv (σ0 σ) n.toNat) r σ') → (qI (fun (r : Int) (σ' : MM) => oEnd σ (t2 (1 ≤ n ∧ n ≤ 100) (σ.1 0 + n ≤ 2100)) (σ.1 0 + n) (sAdv (σ0 σ) n.toNat) r σ')) (some (IV r)) σ' := fun r σ' h => ⟨r, rfl, h⟩
  generalize (qI (fun (r : Int) (σ' : MM) => oEnd σ (t2 (1 ≤ n ∧ n ≤ 100) (σ.1 0 + n ≤ 2100)) (σ.1 0 + n) (sAdv (σ0 σ) n.toNat) r σ')) = QP at hQ ⊢
  have n6 : 0 ≤ σ.1 6 ∧ σ.1 6 ≤ 5 := hB.1 6
  have n9 : 0 ≤ σ.1 9 ∧ σ.1 9 ≤ 20 := hB.1 9
  have n0 : 0 ≤ σ.1 0 ∧ σ.1 0 ≤ 2100 := hB.1 0
  have n14 : 0 ≤ σ.1 14 ∧ σ.1 14 ≤ 5 := hB.1 14
  have n26 : 0 ≤ σ.1 26 ∧ σ.1 26 ≤ 60 := hB.1 26
  refine j_iload_n (pc := 0) dX2_advance_0 rfl ?_
  refine j_iconst (pc := 1) dX2_advance_1 rfl ?_
  refine j_bipush (pc := 2) (a := 100) dX2_advance_2 (by decide) ?_
  refine j_callS (pc := 4) (m_in σ n 1 100 (by omega) (by decide) (by decide)) (lw_S q1532 q1533 q48 q1534) md_yX2_in (by decide) (by decide) rfl (Nat.le_of_ble_eq_true rfl) dX2_advance_4 (qI.k (fun r_4 s_4 q_4 => ?_))
  obtain ⟨e1q_4, e2q_4⟩ := q_4
  subst r_4
  subst s_4
  refine j_istore_n (pc := 7) dX2_advance_7 (by decide) (lo' := [some (.ref o), some (IV n), some (IV (bI (1 ≤ n ∧ n ≤ 100))), none]) rfl ?_
  refine j_aload_n (pc := 8) dX2_advance_8 rfl ?_
  refine j_iload_n (pc := 9) dX2_advance_9 rfl ?_
  refine j_iload_n (pc := 10) dX2_advance_10 rfl ?_
  refine j_ifb_eq (pc := 11) (tgt := 30) dX2_advance_11 (by decide) (fun c_11 => ?_) (fun c_11 => ?_)
  · refine j_iconst (pc := 30) dX2_advance_30 rfl ?_
    refine j_callV (pc := 31) (m_asked2 σ (bI (1 ≤ n ∧ n ≤ 100)) 0 (bI_01 _) (Or.inl rfl)) (lw_V q1538 q1540 qs20 q48 q1541) rfl md_yX2_asked (RC.ofM _ rfl) (by decide) (by decide) rfl (Nat.le_of_ble_eq_true rfl) dX2_advance_31 (qI.k (fun r_31 s_31 q_31 => ?_))
    rcases q_31 with ⟨q_31a, rfl, rfl⟩ | ⟨q_31a, rfl, rfl⟩
    · exact absurd q_31a (by simp)
    · have q_31_0 := bI_or ((1 ≤ n ∧ n ≤ 100))
      refine j_if_ne (pc := 34) (tgt := 39) dX2_advance_34 (by decide) (by decide) (fun c_34 => ?_) (fun c_34 => ?_)
      · exact absurd c_34 (by decide)
      · refine j_iconst (pc := 37) dX2_advance_37 rfl ?_
        refine j_iret (pc := 38) rfl (hQ _ _ ?_) dX2_advance_38
        exact Or.inr ⟨by unfold t2; (repeat' split) <;> omega, rfl, by congr 1; unfold t2; (repeat' split) <;> omega⟩
  · refine j_aload_n (pc := 14) dX2_advance_14 rfl ?_
    refine m_getI (pc := 15) (v := σ.1 0) fa_X2_149_X2 (by decide) rfl rfl dX2_advance_15 ?_
    have n_1 : 0 ≤ σ.1 0 ∧ σ.1 0 ≤ 2100 := hB.1 0
    refine j_iload_n (pc := 18) dX2_advance_18 rfl ?_
    refine j_iadd (pc := 19) dX2_advance_19 ?_
    refine j_sipush (pc := 20) (a := 2100) dX2_advance_20 (by decide) ?_
    refine j_icmp_gt (pc := 23) (tgt := 30) dX2_advance_23 (by decide) (by omega) (by decide) (fun c_23 => ?_) (fun c_23 => ?_)
    · refine j_iconst (pc := 30) dX2_advance_30 rfl ?_
      refine j_callV (pc := 31) (m_asked2 σ (bI (1 ≤ n ∧ n ≤ 100)) 0 (bI_01 _) (Or.inl rfl)) (lw_V q1538 q1540 qs20 q48 q1541) rfl md_yX2_asked (RC.ofM _ rfl) (by decide) (by decide) rfl (Nat.le_of_ble_eq_true rfl) dX2_advance_31 (qI.k (fun r_31_1 s_31_1 q_31_1 => ?_))
      rcases q_31_1 with ⟨q_31_1a, rfl, rfl⟩ | ⟨q_31_1a, rfl, rfl⟩
      · exact absurd q_31_1a (by simp)
      · have q_31_1_0 := bI_or ((1 ≤ n ∧ n ≤ 100))
        refine j_if_ne (pc := 34) (tgt := 39) dX2_advance_34 (by decide) (by decide) (fun c_34_1 => ?_) (fun c_34_1 => ?_)
        · exact absurd c_34_1 (by decide)
        · refine j_iconst (pc := 37) dX2_advance_37 rfl ?_
          refine j_iret (pc := 38) rfl (hQ _ _ ?_) dX2_advance_38
          exact Or.inr ⟨by unfold t2; (repeat' split) <;> omega, rfl, by congr 1; unfold t2; (repeat' split) <;> omega⟩
    · refine j_iconst (pc := 26) dX2_advance_26 rfl ?_
      refine j_goto (pc := 27) (tgt := 31) dX2_advance_27 (by decide) ?_
      refine j_callV (pc := 31) (m_asked2 σ (bI (1 ≤ n ∧ n ≤ 100)) 1 (bI_01 _) (Or.inr rfl)) (lw_V q1538 q1540 qs20 q48 q1541) rfl md_yX2_asked (RC.ofM _ rfl) (by decide) (by decide) rfl (Nat.le_of_ble_eq_true rfl) dX2_advance_31 (qI.k (fun r_31_1 s_31_1 q_31_1 => ?_))
      rcases q_31_1 with ⟨q_31_1a, rfl, rfl⟩ | ⟨q_31_1a, rfl, rfl⟩
      · have q_31_1_0 := bI_or ((1 ≤ n ∧ n ≤ 100))
        refine j_if_ne (pc := 34) (tgt := 39) dX2_advance_34 (by decide) (by decide) (fun c_34_1 => ?_) (fun c_34_1 => ?_)
        · refine j_iconst (pc := 39) dX2_advance_39 rfl ?_
          refine j_istore_n (pc := 40) dX2_advance_40 (by decide) (lo' := [some (.ref o), some (IV n), some (IV (bI (1 ≤ n ∧ n ≤ 100))), some (IV 0)]) rfl ?_
          have hl_41 : ∀ (fu : Nat) (k : Nat) (s : MM), n.toNat - k < fu → (k : Int) ≤ n → s = sAdv (σ0 σ) k → J Γ (AM o ad) (RepM Γ o ad) l RX2 "advance" cX2_advance 4 (some .int) [] 6 0 0 QP X0 0 0 s 41 [some (.ref o), some (IV n), none, some (IV (k : Int))] [] := by
            intro fu
            induction fu with
            | zero => intro k s hm; exact absurd hm (Nat.not_lt_zero _)
            | succ fu ih_41 =>
              intro k s hm hk hs
              obtain ⟨h1, h2, h3⟩ := (hI.i43 (v := 0) (by decide)).adv hT hN k (by show σ.1 0 + k ≤ 2100; omega)
              rw [← hs] at h1 h2 h3
              have h3 : s.1 0 = σ.1 0 + k := h3
              have g14 : 0 ≤ s.1 14 ∧ s.1 14 ≤ 5 := h1.1.1 14
              have g15 : 0 ≤ s.1 15 ∧ s.1 15 ≤ 2000 := h1.1.1 15
              refine j_iload_n (pc := 41) dX2_advance_41 rfl ?_
              refine j_iload_n (pc := 42) dX2_advance_42 rfl ?_
              refine j_icmp_ge (pc := 43) (tgt := 130) dX2_advance_43 (by decide) (by omega) (by omega) (fun c_43 => ?_) (fun c_43 => ?_)
              · have hk9 : k = n.toNat := by omega
                rw [hk9] at hs h3
                refine j_aload_n (pc := 130) dX2_advance_130 rfl ?_
                refine m_getI (pc := 131) (v := s.1 0) fa_X2_149_X2 (by decide) rfl rfl dX2_advance_131 ?_
                refine j_iret (pc := 134) rfl (hQ _ _ ?_) dX2_advance_134
                exact Or.inl ⟨by unfold t2; (repeat' split) <;> omega, by omega, hs⟩
              · refine j_aload_n (pc := 46) dX2_advance_46 rfl ?_
                refine j_dup (pc := 47) dX2_advance_47 rfl ?_
                refine m_getI (pc := 48) (v := s.1 0) fa_X2_149_X2 (by decide) rfl rfl dX2_advance_48 ?_
                refine j_iconst (pc := 51) dX2_advance_51 rfl ?_
                refine j_iadd (pc := 52) dX2_advance_52 ?_
                refine m_putI (pc := 53) fp_X2_149_X2 (by decide) rfl dX2_advance_53 ?_
                refine j_aload_n (pc := 56) dX2_advance_56 rfl ?_
                refine m_getI (pc := 57) (v := s.1 14) fa_X2_41_X2 (by decide) rfl rfl dX2_advance_57 ?_
                refine j_iconst (pc := 60) dX2_advance_60 rfl ?_
                refine j_icmp_ne (pc := 61) (tgt := 85) dX2_advance_61 (by decide) (by omega) (by decide) (fun c_61 => ?_) (fun c_61 => ?_)
                · refine j_aload_n (pc := 85) dX2_advance_85 rfl ?_
                  refine m_getI (pc := 86) (v := s.1 14) fa_X2_41_X2 (by decide) rfl rfl dX2_advance_86 ?_
                  refine j_iconst (pc := 89) dX2_advance_89 rfl ?_
                  refine j_icmp_ne (pc := 90) (tgt := 112) dX2_advance_90 (by decide) (by omega) (by decide) (fun c_90 => ?_) (fun c_90 => ?_)
                  · refine j_aload_n (pc := 112) dX2_advance_112 rfl ?_
                    refine m_getI (pc := 113) (v := s.1 14) fa_X2_41_X2 (by decide) rfl rfl dX2_advance_113 ?_
                    refine j_iconst (pc := 116) dX2_advance_116 rfl ?_
                    refine j_icmp_ne (pc := 117) (tgt := 124) dX2_advance_117 (by decide) (by omega) (by decide) (fun c_117 => ?_) (fun c_117 => ?_)
                    · refine j_iinc (pc := 124) dX2_advance_124 rfl (by decide) (lo' := [some (.ref o), some (IV n), none, some (IV ((k : Int) + 1))]) rfl ?_
                      refine j_goto (pc := 127) (tgt := 41) dX2_advance_127 (by decide) ?_
                      exact ih_41 (k + 1) (setI s 0 ((s.1 0) + 1)) (by omega) (by omega) (by show _ = sDay (sAdv (σ0 σ) k); rw [← hs]; unfold sDay; rw [if_neg (by omega), if_neg (by omega), if_neg (by omega)])
                    · refine j_aload_n (pc := 120) dX2_advance_120 rfl ?_
                      refine j_callV (pc := 121) (m_closes (setI s 0 ((s.1 0) + 1))  (h1.stage4 (d := s.1 0 + 1) (by omega) (by omega)) (by have h9 := h2.2; rw [if_neg (by omega)] at h9; show s.1 42 ≤ 900; omega)) (lw_V q1630 q1632 qs33 q48 q1633) rfl md_yX2_closes (RC.ofM _ rfl) (by decide) (by decide) rfl (Nat.le_of_ble_eq_true rfl) dX2_advance_121 (qV.k (fun s_121 q_121 => ?_))
                      obtain rfl := q_121
                      refine j_iinc (pc := 124) dX2_advance_124 rfl (by decide) (lo' := [some (.ref o), some (IV n), none, some (IV ((k : Int) + 1))]) rfl ?_
                      refine j_goto (pc := 127) (tgt := 41) dX2_advance_127 (by decide) ?_
                      exact ih_41 (k + 1) (sCloses (setI s 0 ((s.1 0) + 1))) (by omega) (by omega) (by show _ = sDay (sAdv (σ0 σ) k); rw [← hs]; unfold sDay; rw [if_neg (by omega), if_neg (by omega), if_pos (by omega)])
                  · refine j_aload_n (pc := 93) dX2_advance_93 rfl ?_
                    refine m_getI (pc := 94) (v := (s.1 0) + 1) fa_X2_149_X2 (by decide) rfl rfl dX2_advance_94 ?_
                    refine j_aload_n (pc := 97) dX2_advance_97 rfl ?_
                    refine m_getI (pc := 98) (v := s.1 15) fa_X2_181_X2 (by decide) rfl rfl dX2_advance_98 ?_
                    refine j_icmp_ne (pc := 101) (tgt := 112) dX2_advance_101 (by decide) (by omega) (by omega) (fun c_101 => ?_) (fun c_101 => ?_)
                    · refine j_aload_n (pc := 112) dX2_advance_112 rfl ?_
                      refine m_getI (pc := 113) (v := s.1 14) fa_X2_41_X2 (by decide) rfl rfl dX2_advance_113 ?_
                      refine j_iconst (pc := 116) dX2_advance_116 rfl ?_
                      refine j_icmp_ne (pc := 117) (tgt := 124) dX2_advance_117 (by decide) (by omega) (by decide) (fun c_117_1 => ?_) (fun c_117_1 => ?_)
                      · refine j_iinc (pc := 124) dX2_advance_124 rfl (by decide) (lo' := [some (.ref o), some (IV n), none, some (IV ((k : Int) + 1))]) rfl ?_
                        refine j_goto (pc := 127) (tgt := 41) dX2_advance_127 (by decide) ?_
                        exact ih_41 (k + 1) (setI s 0 ((s.1 0) + 1)) (by omega) (by omega) (by show _ = sDay (sAdv (σ0 σ) k); rw [← hs]; unfold sDay; rw [if_neg (by omega), if_neg (by omega), if_neg (by omega)])
                      · refine j_aload_n (pc := 120) dX2_advance_120 rfl ?_
                        refine j_callV (pc := 121) (m_closes (setI s 0 ((s.1 0) + 1))  (h1.stage4 (d := s.1 0 + 1) (by omega) (by omega)) (by have h9 := h2.2; rw [if_neg (by omega)] at h9; show s.1 42 ≤ 900; omega)) (lw_V q1630 q1632 qs33 q48 q1633) rfl md_yX2_closes (RC.ofM _ rfl) (by decide) (by decide) rfl (Nat.le_of_ble_eq_true rfl) dX2_advance_121 (qV.k (fun s_121_1 q_121_1 => ?_))
                        obtain rfl := q_121_1
                        refine j_iinc (pc := 124) dX2_advance_124 rfl (by decide) (lo' := [some (.ref o), some (IV n), none, some (IV ((k : Int) + 1))]) rfl ?_
                        refine j_goto (pc := 127) (tgt := 41) dX2_advance_127 (by decide) ?_
                        exact ih_41 (k + 1) (sCloses (setI s 0 ((s.1 0) + 1))) (by omega) (by omega) (by show _ = sDay (sAdv (σ0 σ) k); rw [← hs]; unfold sDay; rw [if_neg (by omega), if_neg (by omega), if_pos (by omega)])
                    · refine j_aload_n (pc := 104) dX2_advance_104 rfl ?_
                      refine j_iconst (pc := 105) dX2_advance_105 rfl ?_
                      refine m_putI (pc := 106) fp_X2_41_X2 (by decide) rfl dX2_advance_106 ?_
                      refine j_goto (pc := 109) (tgt := 124) dX2_advance_109 (by decide) ?_
                      refine j_iinc (pc := 124) dX2_advance_124 rfl (by decide) (lo' := [some (.ref o), some (IV n), none, some (IV ((k : Int) + 1))]) rfl ?_
                      refine j_goto (pc := 127) (tgt := 41) dX2_advance_127 (by decide) ?_
                      exact ih_41 (k + 1) (setI (setI s 0 ((s.1 0) + 1)) 14 3) (by omega) (by omega) (by show _ = sDay (sAdv (σ0 σ) k); rw [← hs]; unfold sDay; rw [if_neg (by omega), if_pos ⟨by omega, by omega⟩])
                · refine j_aload_n (pc := 64) dX2_advance_64 rfl ?_
                  refine m_getI (pc := 65) (v := (s.1 0) + 1) fa_X2_149_X2 (by decide) rfl rfl dX2_advance_65 ?_
                  refine j_aload_n (pc := 68) dX2_advance_68 rfl ?_
                  refine m_getI (pc := 69) (v := s.1 15) fa_X2_181_X2 (by decide) rfl rfl dX2_advance_69 ?_
                  refine j_bipush (pc := 72) (a := 6) dX2_advance_72 (by decide) ?_
                  refine j_isub (pc := 74) dX2_advance_74 ?_
                  refine j_icmp_ne (pc := 75) (tgt := 85) dX2_advance_75 (by decide) (by omega) (by omega) (fun c_75 => ?_) (fun c_75 => ?_)
                  · refine j_aload_n (pc := 85) dX2_advance_85 rfl ?_
                    refine m_getI (pc := 86) (v := s.1 14) fa_X2_41_X2 (by decide) rfl rfl dX2_advance_86 ?_
                    refine j_iconst (pc := 89) dX2_advance_89 rfl ?_
                    refine j_icmp_ne (pc := 90) (tgt := 112) dX2_advance_90 (by decide) (by omega) (by decide) (fun c_90_1 => ?_) (fun c_90_1 => ?_)
                    · refine j_aload_n (pc := 112) dX2_advance_112 rfl ?_
                      refine m_getI (pc := 113) (v := s.1 14) fa_X2_41_X2 (by decide) rfl rfl dX2_advance_113 ?_
                      refine j_iconst (pc := 116) dX2_advance_116 rfl ?_
                      refine j_icmp_ne (pc := 117) (tgt := 124) dX2_advance_117 (by decide) (by omega) (by decide) (fun c_117_1 => ?_) (fun c_117_1 => ?_)
                      · refine j_iinc (pc := 124) dX2_advance_124 rfl (by decide) (lo' := [some (.ref o), some (IV n), none, some (IV ((k : Int) + 1))]) rfl ?_
                        refine j_goto (pc := 127) (tgt := 41) dX2_advance_127 (by decide) ?_
                        exact ih_41 (k + 1) (setI s 0 ((s.1 0) + 1)) (by omega) (by omega) (by show _ = sDay (sAdv (σ0 σ) k); rw [← hs]; unfold sDay; rw [if_neg (by omega), if_neg (by omega), if_neg (by omega)])
                      · refine j_aload_n (pc := 120) dX2_advance_120 rfl ?_
                        refine j_callV (pc := 121) (m_closes (setI s 0 ((s.1 0) + 1))  (h1.stage4 (d := s.1 0 + 1) (by omega) (by omega)) (by have h9 := h2.2; rw [if_neg (by omega)] at h9; show s.1 42 ≤ 900; omega)) (lw_V q1630 q1632 qs33 q48 q1633) rfl md_yX2_closes (RC.ofM _ rfl) (by decide) (by decide) rfl (Nat.le_of_ble_eq_true rfl) dX2_advance_121 (qV.k (fun s_121_1 q_121_1 => ?_))
                        obtain rfl := q_121_1
                        refine j_iinc (pc := 124) dX2_advance_124 rfl (by decide) (lo' := [some (.ref o), some (IV n), none, some (IV ((k : Int) + 1))]) rfl ?_
                        refine j_goto (pc := 127) (tgt := 41) dX2_advance_127 (by decide) ?_
                        exact ih_41 (k + 1) (sCloses (setI s 0 ((s.1 0) + 1))) (by omega) (by omega) (by show _ = sDay (sAdv (σ0 σ) k); rw [← hs]; unfold sDay; rw [if_neg (by omega), if_neg (by omega), if_pos (by omega)])
                    · refine j_aload_n (pc := 93) dX2_advance_93 rfl ?_
                      refine m_getI (pc := 94) (v := (s.1 0) + 1) fa_X2_149_X2 (by decide) rfl rfl dX2_advance_94 ?_
                      refine j_aload_n (pc := 97) dX2_advance_97 rfl ?_
                      refine m_getI (pc := 98) (v := s.1 15) fa_X2_181_X2 (by decide) rfl rfl dX2_advance_98 ?_
                      refine j_icmp_ne (pc := 101) (tgt := 112) dX2_advance_101 (by decide) (by omega) (by omega) (fun c_101_1 => ?_) (fun c_101_1 => ?_)
                      · refine j_aload_n (pc := 112) dX2_advance_112 rfl ?_
                        refine m_getI (pc := 113) (v := s.1 14) fa_X2_41_X2 (by decide) rfl rfl dX2_advance_113 ?_
                        refine j_iconst (pc := 116) dX2_advance_116 rfl ?_
                        refine j_icmp_ne (pc := 117) (tgt := 124) dX2_advance_117 (by decide) (by omega) (by decide) (fun c_117_1 => ?_) (fun c_117_1 => ?_)
                        · refine j_iinc (pc := 124) dX2_advance_124 rfl (by decide) (lo' := [some (.ref o), some (IV n), none, some (IV ((k : Int) + 1))]) rfl ?_
                          refine j_goto (pc := 127) (tgt := 41) dX2_advance_127 (by decide) ?_
                          exact ih_41 (k + 1) (setI s 0 ((s.1 0) + 1)) (by omega) (by omega) (by show _ = sDay (sAdv (σ0 σ) k); rw [← hs]; unfold sDay; rw [if_neg (by omega), if_neg (by omega), if_neg (by omega)])
                        · refine j_aload_n (pc := 120) dX2_advance_120 rfl ?_
                          refine j_callV (pc := 121) (m_closes (setI s 0 ((s.1 0) + 1))  (h1.stage4 (d := s.1 0 + 1) (by omega) (by omega)) (by have h9 := h2.2; rw [if_neg (by omega)] at h9; show s.1 42 ≤ 900; omega)) (lw_V q1630 q1632 qs33 q48 q1633) rfl md_yX2_closes (RC.ofM _ rfl) (by decide) (by decide) rfl (Nat.le_of_ble_eq_true rfl) dX2_advance_121 (qV.k (fun s_121_1 q_121_1 => ?_))
                          obtain rfl := q_121_1
                          refine j_iinc (pc := 124) dX2_advance_124 rfl (by decide) (lo' := [some (.ref o), some (IV n), none, some (IV ((k : Int) + 1))]) rfl ?_
                          refine j_goto (pc := 127) (tgt := 41) dX2_advance_127 (by decide) ?_
                          exact ih_41 (k + 1) (sCloses (setI s 0 ((s.1 0) + 1))) (by omega) (by omega) (by show _ = sDay (sAdv (σ0 σ) k); rw [← hs]; unfold sDay; rw [if_neg (by omega), if_neg (by omega), if_pos (by omega)])
                      · refine j_aload_n (pc := 104) dX2_advance_104 rfl ?_
                        refine j_iconst (pc := 105) dX2_advance_105 rfl ?_
                        refine m_putI (pc := 106) fp_X2_41_X2 (by decide) rfl dX2_advance_106 ?_
                        refine j_goto (pc := 109) (tgt := 124) dX2_advance_109 (by decide) ?_
                        refine j_iinc (pc := 124) dX2_advance_124 rfl (by decide) (lo' := [some (.ref o), some (IV n), none, some (IV ((k : Int) + 1))]) rfl ?_
                        refine j_goto (pc := 127) (tgt := 41) dX2_advance_127 (by decide) ?_
                        exact ih_41 (k + 1) (setI (setI s 0 ((s.1 0) + 1)) 14 3) (by omega) (by omega) (by show _ = sDay (sAdv (σ0 σ) k); rw [← hs]; unfold sDay; rw [if_neg (by omega), if_pos ⟨by omega, by omega⟩])
                  · refine j_aload_n (pc := 78) dX2_advance_78 rfl ?_
                    refine j_callV (pc := 79) (m_makesRoll (setI s 0 ((s.1 0) + 1))  (h1.rollPre (by omega) (by omega))) (lw_V q1622 q1624 qs31 q48 q1625) rfl md_yX2_makesRoll (RC.ofM _ rfl) (by decide) (by decide) rfl (Nat.le_of_ble_eq_true rfl) dX2_advance_79 (qV.k (fun s_79 q_79 => ?_))
                    obtain rfl := q_79
                    refine j_goto (pc := 82) (tgt := 124) dX2_advance_82 (by decide) ?_
                    refine j_iinc (pc := 124) dX2_advance_124 rfl (by decide) (lo' := [some (.ref o), some (IV n), none, some (IV ((k : Int) + 1))]) rfl ?_
                    refine j_goto (pc := 127) (tgt := 41) dX2_advance_127 (by decide) ?_
                    exact ih_41 (k + 1) (sRoll (setI s 0 ((s.1 0) + 1))) (by omega) (by omega) (by show _ = sDay (sAdv (σ0 σ) k); rw [← hs]; unfold sDay; rw [if_pos ⟨by omega, by omega⟩])
          refine j_sub (lo' := [some (.ref o), some (IV n), none, some (IV 0)]) ⟨Or.inr rfl, Or.inr rfl, Or.inl rfl, Or.inr rfl, trivial⟩ ?_
          exact hl_41 _ 0 (setI σ 43 0) (Nat.lt_succ_self _) (by omega) rfl
        · exact absurd c_34_1 (by decide)
      · have q_31_1_0 := bI_or ((1 ≤ n ∧ n ≤ 100))
        refine j_if_ne (pc := 34) (tgt := 39) dX2_advance_34 (by decide) (by decide) (fun c_34_1 => ?_) (fun c_34_1 => ?_)
        · exact absurd c_34_1 (by decide)
        · refine j_iconst (pc := 37) dX2_advance_37 rfl ?_
          refine j_iret (pc := 38) rfl (hQ _ _ ?_) dX2_advance_38
          exact Or.inr ⟨by unfold t2; (repeat' split) <;> omega, rfl, by congr 1; unfold t2; (repeat' split) <;> omega⟩

