set_option maxRecDepth 100000
theorem fp_X2_178_X2 : FP RX2 178 1 19 (.int) false := ⟨RX2, TX2, 44, "BallotFoundryModel", tyX2, rfl, in_X2, by decide, q1407, Or.inl rfl, tyX2_ok, nmX2, rfl, rfl, fun h => nomatch h⟩
theorem fp_X2_165_X2 : FP RX2 165 1 26 (.int) false := ⟨RX2, TX2, 44, "BallotFoundryModel", tyX2, rfl, in_X2, by decide, q1414, Or.inl rfl, tyX2_ok, nmX2, rfl, rfl, fun h => nomatch h⟩
set_option maxHeartbeats 4000000 in
theorem m_clears {Γ : GG} {l : Launch} {o : Nat} {ad : Nat → Nat} (σ : MM) (hB : Bd σ) : Ct Γ (AM o ad) (RepM Γ o ad) l yX2_clears (ws_ yX2_clears cX2_clears 2 none) 1 0 0 [.ref o] σ (qV (fun (σ' : MM) => σ' = sClears σ)) X0 := by
  refine Ct.ofJ (own := RX2) (nm := "clears") (lo := [some (.ref o), none]) pn_X2 rfl rfl (List.forall_mem_cons.mpr ⟨rfl, (fun _ h => nomatch h)⟩) (Nat.le_of_ble_eq_true rfl) rfl ?_
  have hQ : ∀ (σ' : MM), (σ' = sClears σ) → (qV (fun (σ' : MM) => σ' = sClears σ)) none σ' := fun σ' h => ⟨rfl, h⟩
  generalize (qV (fun (σ' : MM) => σ' = sClears σ)) = QP at hQ ⊢
  refine j_aload_n (pc := 0) dX2_clears_0 rfl ?_
  refine j_iconst (pc := 1) dX2_clears_1 rfl ?_
  refine m_putI (pc := 2) fp_X2_178_X2 (by decide) rfl dX2_clears_2 ?_
  refine j_aload_n (pc := 5) dX2_clears_5 rfl ?_
  refine j_iconst (pc := 6) dX2_clears_6 rfl ?_
  refine m_putI (pc := 7) fp_X2_165_X2 (by decide) rfl dX2_clears_7 ?_
  refine j_aload_n (pc := 10) dX2_clears_10 rfl ?_
  refine j_iconst (pc := 11) dX2_clears_11 rfl ?_
  refine m_putI (pc := 12) fp_X2_162_X2 (by decide) rfl dX2_clears_12 ?_
  refine j_iconst (pc := 15) dX2_clears_15 rfl ?_
  refine j_istore_n (pc := 16) dX2_clears_16 (by decide) (lo' := [some (.ref o), some (IV 0)]) rfl ?_
  have hl_17 : ∀ (fu : Nat) (k : Nat), 20 - k < fu → k ≤ 20 → J Γ (AM o ad) (RepM Γ o ad) l RX2 "clears" cX2_clears 2 none [] 1 0 0 QP X0 0 0 (sCl1 (setI (setI (setI σ 19 0) 26 0) 42 0) k) 17 [some (.ref o), some (IV (k : Int))] [] := by
    intro fu
    induction fu with
    | zero => intro k hm; exact absurd hm (Nat.not_lt_zero _)
    | succ fu ih_17 =>
      intro k hm hk
      refine j_iload_n (pc := 17) dX2_clears_17 rfl ?_
      refine j_bipush (pc := 18) (a := 20) dX2_clears_18 (by decide) ?_
      refine j_icmp_ge (pc := 20) (tgt := 43) dX2_clears_20 (by decide) (by omega) (by decide) (fun c_20 => ?_) (fun c_20 => ?_)
      · obtain rfl : k = 20 := by omega
        refine j_iconst (pc := 43) dX2_clears_43 rfl ?_
        refine j_istore_n (pc := 44) dX2_clears_44 (by decide) (lo' := [some (.ref o), some (IV 0)]) rfl ?_
        have hl_45 : ∀ (fu : Nat) (k : Nat), 5 - k < fu → k ≤ 5 → J Γ (AM o ad) (RepM Γ o ad) l RX2 "clears" cX2_clears 2 none [] 1 0 0 QP X0 0 0 (sCl2 (sCl1 (setI (setI (setI σ 19 0) 26 0) 42 0) 20) k) 45 [some (.ref o), some (IV (k : Int))] [] := by
          intro fu
          induction fu with
          | zero => intro k hm; exact absurd hm (Nat.not_lt_zero _)
          | succ fu ih_45 =>
            intro k hm hk
            refine j_iload_n (pc := 45) dX2_clears_45 rfl ?_
            refine j_iconst (pc := 46) dX2_clears_46 rfl ?_
            refine j_icmp_ge (pc := 47) (tgt := 91) dX2_clears_47 (by decide) (by omega) (by decide) (fun c_47 => ?_) (fun c_47 => ?_)
            · obtain rfl : k = 5 := by omega
              refine j_vret (pc := 91) rfl (hQ _ ?_) dX2_clears_91
              exact rfl
            · refine j_aload_n (pc := 50) dX2_clears_50 rfl ?_
              refine m_getA (pc := 51) fa_X2_45_X2 (by decide) (by decide) dX2_clears_51 ?_
              refine j_iload_n (pc := 54) dX2_clears_54 rfl ?_
              refine j_iconst (pc := 55) dX2_clears_55 rfl ?_
              refine m_st (pc := 56) (by decide) (by decide) rfl (by show 0 ≤ (k : Int) ∧ (k : Int) < ((5 : Nat) : Int); omega) dX2_clears_56 ?_
              refine j_aload_n (pc := 57) dX2_clears_57 rfl ?_
              refine m_getA (pc := 58) fa_X2_51_X2 (by decide) (by decide) dX2_clears_58 ?_
              refine j_iload_n (pc := 61) dX2_clears_61 rfl ?_
              refine j_iconst (pc := 62) dX2_clears_62 rfl ?_
              refine m_st (pc := 63) (by decide) (by decide) rfl (by show 0 ≤ (k : Int) ∧ (k : Int) < ((5 : Nat) : Int); omega) dX2_clears_63 ?_
              refine j_aload_n (pc := 64) dX2_clears_64 rfl ?_
              refine m_getA (pc := 65) fa_X2_69_X2 (by decide) (by decide) dX2_clears_65 ?_
              refine j_iload_n (pc := 68) dX2_clears_68 rfl ?_
              refine j_iconst (pc := 69) dX2_clears_69 rfl ?_
              refine m_st (pc := 70) (by decide) (by decide) rfl (by show 0 ≤ (k : Int) ∧ (k : Int) < ((5 : Nat) : Int); omega) dX2_clears_70 ?_
              refine j_aload_n (pc := 71) dX2_clears_71 rfl ?_
              refine m_getA (pc := 72) fa_X2_78_X2 (by decide) (by decide) dX2_clears_72 ?_
              refine j_iload_n (pc := 75) dX2_clears_75 rfl ?_
              refine j_iconst (pc := 76) dX2_clears_76 rfl ?_
              refine m_st (pc := 77) (by decide) (by decide) rfl (by show 0 ≤ (k : Int) ∧ (k : Int) < ((5 : Nat) : Int); omega) dX2_clears_77 ?_
              refine j_aload_n (pc := 78) dX2_clears_78 rfl ?_
              refine m_getA (pc := 79) fa_X2_81_X2 (by decide) (by decide) dX2_clears_79 ?_
              refine j_iload_n (pc := 82) dX2_clears_82 rfl ?_
              refine j_iconst (pc := 83) dX2_clears_83 rfl ?_
              refine m_st (pc := 84) (by decide) (by decide) rfl (by show 0 ≤ (k : Int) ∧ (k : Int) < ((5 : Nat) : Int); omega) dX2_clears_84 ?_
              refine j_iinc (pc := 85) dX2_clears_85 rfl (by decide) (lo' := [some (.ref o), some (IV ((k : Int) + 1))]) rfl ?_
              refine j_goto (pc := 88) (tgt := 45) dX2_clears_88 (by decide) ?_
              exact ih_45 (k + 1) (by omega) (by omega)
        exact hl_45 _ 0 (Nat.lt_succ_self _) (by omega)
      · refine j_aload_n (pc := 23) dX2_clears_23 rfl ?_
        refine m_getA (pc := 24) fa_X2_48_X2 (by decide) (by decide) dX2_clears_24 ?_
        refine j_iload_n (pc := 27) dX2_clears_27 rfl ?_
        refine j_iconst (pc := 28) dX2_clears_28 rfl ?_
        refine m_st (pc := 29) (by decide) (by decide) rfl (by show 0 ≤ (k : Int) ∧ (k : Int) < ((20 : Nat) : Int); omega) dX2_clears_29 ?_
        refine j_aload_n (pc := 30) dX2_clears_30 rfl ?_
        refine m_getA (pc := 31) fa_X2_54_X2 (by decide) (by decide) dX2_clears_31 ?_
        refine j_iload_n (pc := 34) dX2_clears_34 rfl ?_
        refine j_iconst (pc := 35) dX2_clears_35 rfl ?_
        refine m_zst (pc := 36) (by decide) (by decide) rfl (by show 0 ≤ (k : Int) ∧ (k : Int) < ((20 : Nat) : Int); omega) (Or.inl rfl) dX2_clears_36 ?_
        refine j_iinc (pc := 37) dX2_clears_37 rfl (by decide) (lo' := [some (.ref o), some (IV ((k : Int) + 1))]) rfl ?_
        refine j_goto (pc := 40) (tgt := 17) dX2_clears_40 (by decide) ?_
        exact ih_17 (k + 1) (by omega) (by omega)
  exact hl_17 _ 0 (Nat.lt_succ_self _) (by omega)

theorem fa_X2_178_X2 : FA RX2 178 1 19 := ⟨RX2, TX2, 44, "BallotFoundryModel", rfl, in_X2, by decide, q1407, Or.inl rfl⟩
theorem fa_X2_13_X2 : FA RX2 13 1 2 := ⟨RX2, TX2, 44, "BallotFoundryModel", rfl, in_X2, by decide, q1390, Or.inl rfl⟩
set_option maxHeartbeats 4000000 in
theorem m_stationFor {Γ : GG} {l : Launch} {o : Nat} {ad : Nat → Nat} (σ : MM) (hB : Bd σ) : Ct Γ (AM o ad) (RepM Γ o ad) l yX2_stationFor (ws_ yX2_stationFor cX2_stationFor 4 (some .int)) 1 0 0 [.ref o] σ (qI (fun (r : Int) (σ' : MM) => r = sFor σ ∧ σ' = σ)) X0 := by
  refine Ct.ofJ (own := RX2) (nm := "stationFor") (lo := [some (.ref o), none, none, none]) pn_X2 rfl rfl (List.forall_mem_cons.mpr ⟨rfl, (fun _ h => nomatch h)⟩) (Nat.le_of_ble_eq_true rfl) rfl ?_
  have hQ : ∀ (r : Int) (σ' : MM), (r = sFor σ ∧ σ' = σ) → (qI (fun (r : Int) (σ' : MM) => r = sFor σ ∧ σ' = σ)) (some (IV r)) σ' := fun r σ' h => ⟨r, rfl, h⟩
  generalize (qI (fun (r : Int) (σ' : MM) => r = sFor σ ∧ σ' = σ)) = QP at hQ ⊢
  have n19 : 0 ≤ σ.1 19 ∧ σ.1 19 ≤ 5 := hB.1 19
  refine j_iconst (pc := 0) dX2_stationFor_0 rfl ?_
  refine j_istore_n (pc := 1) dX2_stationFor_1 (by decide) (lo' := [some (.ref o), some (IV (-1)), none, none]) rfl ?_
  refine j_iconst (pc := 2) dX2_stationFor_2 rfl ?_
  refine j_istore_n (pc := 3) dX2_stationFor_3 (by decide) (lo' := [some (.ref o), some (IV (-1)), some (IV 0), none]) rfl ?_
  have hl_4 : ∀ (fu : Nat) (k : Nat) (z : Int), (σ.1 19).toNat - k < fu → (k : Int) ≤ σ.1 19 → z = sBest1 σ k → J Γ (AM o ad) (RepM Γ o ad) l RX2 "stationFor" cX2_stationFor 4 (some .int) [] 1 0 0 QP X0 0 0 σ 4 [some (.ref o), some (IV z), some (IV (k : Int)), none] [] := by
    intro fu
    induction fu with
    | zero => intro k z hm; exact absurd hm (Nat.not_lt_zero _)
    | succ fu ih_4 =>
      intro k z hm hk hz
      have hr := sBest1_rng σ k
      refine j_iload_n (pc := 4) dX2_stationFor_4 rfl ?_
      refine j_aload_n (pc := 5) dX2_stationFor_5 rfl ?_
      refine m_getI (pc := 6) (v := σ.1 19) fa_X2_178_X2 (by decide) rfl rfl dX2_stationFor_6 ?_
      have n_1 : 0 ≤ σ.1 19 ∧ σ.1 19 ≤ 5 := hB.1 19
      refine j_icmp_ge (pc := 9) (tgt := 76) dX2_stationFor_9 (by decide) (by omega) (by omega) (fun c_9 => ?_) (fun c_9 => ?_)
      · have hk9 : k = (σ.1 19).toNat := by omega
        rw [hk9] at hz hr
        refine j_iload_n (pc := 76) dX2_stationFor_76 rfl ?_
        refine j_iconst (pc := 77) dX2_stationFor_77 rfl ?_
        refine j_icmp_eq (pc := 78) (tgt := 83) dX2_stationFor_78 (by decide) (by omega) (by decide) (fun c_78 => ?_) (fun c_78 => ?_)
        · refine j_iconst (pc := 83) dX2_stationFor_83 rfl ?_
          refine j_istore_n (pc := 84) dX2_stationFor_84 (by decide) (lo' := [some (.ref o), some (IV z), some (IV 0), none]) rfl ?_
          have hl_85 : ∀ (fu : Nat) (k : Nat) (z : Int), (σ.1 19).toNat - k < fu → (k : Int) ≤ σ.1 19 → z = sBest2 σ k → J Γ (AM o ad) (RepM Γ o ad) l RX2 "stationFor" cX2_stationFor 4 (some .int) [] 1 0 0 QP X0 0 0 σ 85 [some (.ref o), some (IV z), some (IV (k : Int)), none] [] := by
            intro fu
            induction fu with
            | zero => intro k z hm; exact absurd hm (Nat.not_lt_zero _)
            | succ fu ih_85 =>
              intro k z hm hk hz
              have hr := sBest2_rng σ k
              refine j_iload_n (pc := 85) dX2_stationFor_85 rfl ?_
              refine j_aload_n (pc := 86) dX2_stationFor_86 rfl ?_
              refine m_getI (pc := 87) (v := σ.1 19) fa_X2_178_X2 (by decide) rfl rfl dX2_stationFor_87 ?_
              refine j_icmp_ge (pc := 90) (tgt := 140) dX2_stationFor_90 (by decide) (by omega) (by omega) (fun c_90 => ?_) (fun c_90 => ?_)
              · have hk9 : k = (σ.1 19).toNat := by omega
                rw [hk9] at hz hr
                refine j_iload_n (pc := 140) dX2_stationFor_140 rfl ?_
                refine j_iconst (pc := 141) dX2_stationFor_141 rfl ?_
                refine j_icmp_ne (pc := 142) (tgt := 149) dX2_stationFor_142 (by decide) (by omega) (by decide) (fun c_142 => ?_) (fun c_142 => ?_)
                · refine j_iload_n (pc := 149) dX2_stationFor_149 rfl ?_
                  refine j_iret (pc := 150) rfl (hQ _ _ ?_) dX2_stationFor_150
                  exact ⟨by unfold sFor; (repeat' split) <;> omega, rfl⟩
                · refine j_iconst (pc := 145) dX2_stationFor_145 rfl ?_
                  refine j_goto (pc := 146) (tgt := 150) dX2_stationFor_146 (by decide) ?_
                  refine j_iret (pc := 150) rfl (hQ _ _ ?_) dX2_stationFor_150
                  exact ⟨by unfold sFor; (repeat' split) <;> omega, rfl⟩
              · refine j_aload_n (pc := 93) dX2_stationFor_93 rfl ?_
                refine m_getA (pc := 94) fa_X2_13_X2 (by decide) (by decide) dX2_stationFor_94 ?_
                refine j_aload_n (pc := 97) dX2_stationFor_97 rfl ?_
                refine m_getA (pc := 98) fa_X2_20_X2 (by decide) (by decide) dX2_stationFor_98 ?_
                refine j_iload_n (pc := 101) dX2_stationFor_101 rfl ?_
                refine m_ld (pc := 102) (v := σ.2 4 k) (by decide) (by decide) rfl (by show 0 ≤ (k : Int) ∧ (k : Int) < ((5 : Nat) : Int); omega) rfl dX2_stationFor_102 ?_
                have n_2 : 0 ≤ σ.2 4 k ∧ σ.2 4 k ≤ 35 := hB.2 4 k
                refine m_ld (pc := 103) (v := σ.2 2 (σ.2 4 k).toNat) (by decide) (by decide) rfl (by show 0 ≤ σ.2 4 k ∧ σ.2 4 k < ((36 : Nat) : Int); omega) rfl dX2_stationFor_103 ?_
                have n_3 : (-1) ≤ σ.2 2 (σ.2 4 k).toNat ∧ σ.2 2 (σ.2 4 k).toNat ≤ 36 := hB.2 2 ((σ.2 4 k).toNat)
                refine j_iconst (pc := 104) dX2_stationFor_104 rfl ?_
                refine j_icmp_eq (pc := 105) (tgt := 132) dX2_stationFor_105 (by decide) (by omega) (by decide) (fun c_105 => ?_) (fun c_105 => ?_)
                · refine j_iload_n (pc := 132) dX2_stationFor_132 rfl ?_
                  refine j_istore_n (pc := 133) dX2_stationFor_133 (by decide) (lo' := [some (.ref o), some (IV z), some (IV (k : Int)), none]) rfl ?_
                  refine j_iinc (pc := 134) dX2_stationFor_134 rfl (by decide) (lo' := [some (.ref o), some (IV z), some (IV ((k : Int) + 1)), none]) rfl ?_
                  refine j_goto (pc := 137) (tgt := 85) dX2_stationFor_137 (by decide) ?_
                  exact ih_85 (k + 1) z (by omega) (by omega) (by subst hz; simp only [sBest2]; split <;> first | rfl | omega)
                · refine j_iload_n (pc := 108) dX2_stationFor_108 rfl ?_
                  refine j_iconst (pc := 109) dX2_stationFor_109 rfl ?_
                  refine j_icmp_eq (pc := 110) (tgt := 128) dX2_stationFor_110 (by decide) (by omega) (by decide) (fun c_110 => ?_) (fun c_110 => ?_)
                  · refine j_iload_n (pc := 128) dX2_stationFor_128 rfl ?_
                    refine j_goto (pc := 129) (tgt := 133) dX2_stationFor_129 (by decide) ?_
                    refine j_istore_n (pc := 133) dX2_stationFor_133 (by decide) (lo' := [some (.ref o), some (IV (k : Int)), some (IV (k : Int)), none]) rfl ?_
                    refine j_iinc (pc := 134) dX2_stationFor_134 rfl (by decide) (lo' := [some (.ref o), some (IV (k : Int)), some (IV ((k : Int) + 1)), none]) rfl ?_
                    refine j_goto (pc := 137) (tgt := 85) dX2_stationFor_137 (by decide) ?_
                    exact ih_85 (k + 1) (k : Int) (by omega) (by omega) (by subst hz; simp only [sBest2]; split <;> first | rfl | omega)
                  · refine j_aload_n (pc := 113) dX2_stationFor_113 rfl ?_
                    refine m_getA (pc := 114) fa_X2_51_X2 (by decide) (by decide) dX2_stationFor_114 ?_
                    refine j_iload_n (pc := 117) dX2_stationFor_117 rfl ?_
                    refine m_ld (pc := 118) (v := σ.2 21 k) (by decide) (by decide) rfl (by show 0 ≤ (k : Int) ∧ (k : Int) < ((5 : Nat) : Int); omega) rfl dX2_stationFor_118 ?_
                    have n_4 : 0 ≤ σ.2 21 k ∧ σ.2 21 k ≤ 20 := hB.2 21 k
                    refine j_aload_n (pc := 119) dX2_stationFor_119 rfl ?_
                    refine m_getA (pc := 120) fa_X2_51_X2 (by decide) (by decide) dX2_stationFor_120 ?_
                    refine j_iload_n (pc := 123) dX2_stationFor_123 rfl ?_
                    refine m_ld (pc := 124) (v := σ.2 21 (z).toNat) (by decide) (by decide) rfl (by show 0 ≤ z ∧ z < ((5 : Nat) : Int); omega) rfl dX2_stationFor_124 ?_
                    have n_5 : 0 ≤ σ.2 21 (z).toNat ∧ σ.2 21 (z).toNat ≤ 20 := hB.2 21 ((z).toNat)
                    refine j_icmp_ge (pc := 125) (tgt := 132) dX2_stationFor_125 (by decide) (by omega) (by omega) (fun c_125 => ?_) (fun c_125 => ?_)
                    · refine j_iload_n (pc := 132) dX2_stationFor_132 rfl ?_
                      refine j_istore_n (pc := 133) dX2_stationFor_133 (by decide) (lo' := [some (.ref o), some (IV z), some (IV (k : Int)), none]) rfl ?_
                      refine j_iinc (pc := 134) dX2_stationFor_134 rfl (by decide) (lo' := [some (.ref o), some (IV z), some (IV ((k : Int) + 1)), none]) rfl ?_
                      refine j_goto (pc := 137) (tgt := 85) dX2_stationFor_137 (by decide) ?_
                      exact ih_85 (k + 1) z (by omega) (by omega) (by subst hz; simp only [sBest2]; split <;> first | rfl | omega)
                    · refine j_iload_n (pc := 128) dX2_stationFor_128 rfl ?_
                      refine j_goto (pc := 129) (tgt := 133) dX2_stationFor_129 (by decide) ?_
                      refine j_istore_n (pc := 133) dX2_stationFor_133 (by decide) (lo' := [some (.ref o), some (IV (k : Int)), some (IV (k : Int)), none]) rfl ?_
                      refine j_iinc (pc := 134) dX2_stationFor_134 rfl (by decide) (lo' := [some (.ref o), some (IV (k : Int)), some (IV ((k : Int) + 1)), none]) rfl ?_
                      refine j_goto (pc := 137) (tgt := 85) dX2_stationFor_137 (by decide) ?_
                      exact ih_85 (k + 1) (k : Int) (by omega) (by omega) (by subst hz; simp only [sBest2]; split <;> first | rfl | omega)
          exact hl_85 _ 0 z (Nat.lt_succ_self _) (by omega) (by show z = -1; omega)
        · refine j_iload_n (pc := 81) dX2_stationFor_81 rfl ?_
          refine j_iret (pc := 82) rfl (hQ _ _ ?_) dX2_stationFor_82
          exact ⟨by unfold sFor; (repeat' split) <;> omega, rfl⟩
      · refine j_aload_n (pc := 12) dX2_stationFor_12 rfl ?_
        refine m_getA (pc := 13) fa_X2_13_X2 (by decide) (by decide) dX2_stationFor_13 ?_
        refine j_aload_n (pc := 16) dX2_stationFor_16 rfl ?_
        refine m_getA (pc := 17) fa_X2_20_X2 (by decide) (by decide) dX2_stationFor_17 ?_
        refine j_iload_n (pc := 20) dX2_stationFor_20 rfl ?_
        refine m_ld (pc := 21) (v := σ.2 4 k) (by decide) (by decide) rfl (by show 0 ≤ (k : Int) ∧ (k : Int) < ((5 : Nat) : Int); omega) rfl dX2_stationFor_21 ?_
        have n_6 : 0 ≤ σ.2 4 k ∧ σ.2 4 k ≤ 35 := hB.2 4 k
        refine m_ld (pc := 22) (v := σ.2 2 (σ.2 4 k).toNat) (by decide) (by decide) rfl (by show 0 ≤ σ.2 4 k ∧ σ.2 4 k < ((36 : Nat) : Int); omega) rfl dX2_stationFor_22 ?_
        have n_7 : (-1) ≤ σ.2 2 (σ.2 4 k).toNat ∧ σ.2 2 (σ.2 4 k).toNat ≤ 36 := hB.2 2 ((σ.2 4 k).toNat)
        refine j_istore_n (pc := 23) dX2_stationFor_23 (by decide) (lo' := [some (.ref o), some (IV z), some (IV (k : Int)), some (IV (σ.2 2 (σ.2 4 k).toNat))]) rfl ?_
        refine j_iload_n (pc := 24) dX2_stationFor_24 rfl ?_
        refine j_iconst (pc := 25) dX2_stationFor_25 rfl ?_
        refine j_icmp_eq (pc := 26) (tgt := 68) dX2_stationFor_26 (by decide) (by omega) (by decide) (fun c_26 => ?_) (fun c_26 => ?_)
        · refine j_iload_n (pc := 68) dX2_stationFor_68 rfl ?_
          refine j_istore_n (pc := 69) dX2_stationFor_69 (by decide) (lo' := [some (.ref o), some (IV z), some (IV (k : Int)), some (IV (σ.2 2 (σ.2 4 k).toNat))]) rfl ?_
          refine j_iinc (pc := 70) dX2_stationFor_70 rfl (by decide) (lo' := [some (.ref o), some (IV z), some (IV ((k : Int) + 1)), some (IV (σ.2 2 (σ.2 4 k).toNat))]) rfl ?_
          refine j_goto (pc := 73) (tgt := 4) dX2_stationFor_73 (by decide) ?_
          refine j_sub (lo' := [some (.ref o), some (IV z), some (IV ((k : Int) + 1)), none]) ⟨Or.inr rfl, Or.inr rfl, Or.inr rfl, Or.inl rfl, trivial⟩ ?_
          exact ih_4 (k + 1) z (by omega) (by omega) (by subst hz; simp only [sBest1]; split <;> first | rfl | omega)
        · refine j_aload_n (pc := 29) dX2_stationFor_29 rfl ?_
          refine m_getA (pc := 30) fa_X2_51_X2 (by decide) (by decide) dX2_stationFor_30 ?_
          refine j_iload_n (pc := 33) dX2_stationFor_33 rfl ?_
          refine m_ld (pc := 34) (v := σ.2 21 k) (by decide) (by decide) rfl (by show 0 ≤ (k : Int) ∧ (k : Int) < ((5 : Nat) : Int); omega) rfl dX2_stationFor_34 ?_
          have n_8 : 0 ≤ σ.2 21 k ∧ σ.2 21 k ≤ 20 := hB.2 21 k
          refine j_aload_n (pc := 35) dX2_stationFor_35 rfl ?_
          refine m_getA (pc := 36) fa_X2_23_X2 (by decide) (by decide) dX2_stationFor_36 ?_
          refine j_iload_n (pc := 39) dX2_stationFor_39 rfl ?_
          refine m_ld (pc := 40) (v := σ.2 5 k) (by decide) (by decide) rfl (by show 0 ≤ (k : Int) ∧ (k : Int) < ((5 : Nat) : Int); omega) rfl dX2_stationFor_40 ?_
          have n_9 : 0 ≤ σ.2 5 k ∧ σ.2 5 k ≤ 20 := hB.2 5 k
          refine j_icmp_ge (pc := 41) (tgt := 68) dX2_stationFor_41 (by decide) (by omega) (by omega) (fun c_41 => ?_) (fun c_41 => ?_)
          · refine j_iload_n (pc := 68) dX2_stationFor_68 rfl ?_
            refine j_istore_n (pc := 69) dX2_stationFor_69 (by decide) (lo' := [some (.ref o), some (IV z), some (IV (k : Int)), some (IV (σ.2 2 (σ.2 4 k).toNat))]) rfl ?_
            refine j_iinc (pc := 70) dX2_stationFor_70 rfl (by decide) (lo' := [some (.ref o), some (IV z), some (IV ((k : Int) + 1)), some (IV (σ.2 2 (σ.2 4 k).toNat))]) rfl ?_
            refine j_goto (pc := 73) (tgt := 4) dX2_stationFor_73 (by decide) ?_
            refine j_sub (lo' := [some (.ref o), some (IV z), some (IV ((k : Int) + 1)), none]) ⟨Or.inr rfl, Or.inr rfl, Or.inr rfl, Or.inl rfl, trivial⟩ ?_
            exact ih_4 (k + 1) z (by omega) (by omega) (by subst hz; simp only [sBest1]; split <;> first | rfl | omega)
          · refine j_iload_n (pc := 44) dX2_stationFor_44 rfl ?_
            refine j_iconst (pc := 45) dX2_stationFor_45 rfl ?_
            refine j_icmp_eq (pc := 46) (tgt := 64) dX2_stationFor_46 (by decide) (by omega) (by decide) (fun c_46 => ?_) (fun c_46 => ?_)
            · refine j_iload_n (pc := 64) dX2_stationFor_64 rfl ?_
              refine j_goto (pc := 65) (tgt := 69) dX2_stationFor_65 (by decide) ?_
              refine j_istore_n (pc := 69) dX2_stationFor_69 (by decide) (lo' := [some (.ref o), some (IV (k : Int)), some (IV (k : Int)), some (IV (σ.2 2 (σ.2 4 k).toNat))]) rfl ?_
              refine j_iinc (pc := 70) dX2_stationFor_70 rfl (by decide) (lo' := [some (.ref o), some (IV (k : Int)), some (IV ((k : Int) + 1)), some (IV (σ.2 2 (σ.2 4 k).toNat))]) rfl ?_
              refine j_goto (pc := 73) (tgt := 4) dX2_stationFor_73 (by decide) ?_
              refine j_sub (lo' := [some (.ref o), some (IV (k : Int)), some (IV ((k : Int) + 1)), none]) ⟨Or.inr rfl, Or.inr rfl, Or.inr rfl, Or.inl rfl, trivial⟩ ?_
              exact ih_4 (k + 1) (k : Int) (by omega) (by omega) (by subst hz; simp only [sBest1]; split <;> first | rfl | omega)
            · refine j_iload_n (pc := 49) dX2_stationFor_49 rfl ?_
              refine j_aload_n (pc := 50) dX2_stationFor_50 rfl ?_
              refine m_getA (pc := 51) fa_X2_13_X2 (by decide) (by decide) dX2_stationFor_51 ?_
              refine j_aload_n (pc := 54) dX2_stationFor_54 rfl ?_
              refine m_getA (pc := 55) fa_X2_20_X2 (by decide) (by decide) dX2_stationFor_55 ?_
              refine j_iload_n (pc := 58) dX2_stationFor_58 rfl ?_
              refine m_ld (pc := 59) (v := σ.2 4 (z).toNat) (by decide) (by decide) rfl (by show 0 ≤ z ∧ z < ((5 : Nat) : Int); omega) rfl dX2_stationFor_59 ?_
              have n_10 : 0 ≤ σ.2 4 (z).toNat ∧ σ.2 4 (z).toNat ≤ 35 := hB.2 4 ((z).toNat)
              refine m_ld (pc := 60) (v := σ.2 2 (σ.2 4 (z).toNat).toNat) (by decide) (by decide) rfl (by show 0 ≤ σ.2 4 (z).toNat ∧ σ.2 4 (z).toNat < ((36 : Nat) : Int); omega) rfl dX2_stationFor_60 ?_
              have n_11 : (-1) ≤ σ.2 2 (σ.2 4 (z).toNat).toNat ∧ σ.2 2 (σ.2 4 (z).toNat).toNat ≤ 36 := hB.2 2 ((σ.2 4 (z).toNat).toNat)
              refine j_icmp_ge (pc := 61) (tgt := 68) dX2_stationFor_61 (by decide) (by omega) (by omega) (fun c_61 => ?_) (fun c_61 => ?_)
              · refine j_iload_n (pc := 68) dX2_stationFor_68 rfl ?_
                refine j_istore_n (pc := 69) dX2_stationFor_69 (by decide) (lo' := [some (.ref o), some (IV z), some (IV (k : Int)), some (IV (σ.2 2 (σ.2 4 k).toNat))]) rfl ?_
                refine j_iinc (pc := 70) dX2_stationFor_70 rfl (by decide) (lo' := [some (.ref o), some (IV z), some (IV ((k : Int) + 1)), some (IV (σ.2 2 (σ.2 4 k).toNat))]) rfl ?_
                refine j_goto (pc := 73) (tgt := 4) dX2_stationFor_73 (by decide) ?_
                refine j_sub (lo' := [some (.ref o), some (IV z), some (IV ((k : Int) + 1)), none]) ⟨Or.inr rfl, Or.inr rfl, Or.inr rfl, Or.inl rfl, trivial⟩ ?_
                exact ih_4 (k + 1) z (by omega) (by omega) (by subst hz; simp only [sBest1]; split <;> first | rfl | omega)
              · refine j_iload_n (pc := 64) dX2_stationFor_64 rfl ?_
                refine j_goto (pc := 65) (tgt := 69) dX2_stationFor_65 (by decide) ?_
                refine j_istore_n (pc := 69) dX2_stationFor_69 (by decide) (lo' := [some (.ref o), some (IV (k : Int)), some (IV (k : Int)), some (IV (σ.2 2 (σ.2 4 k).toNat))]) rfl ?_
                refine j_iinc (pc := 70) dX2_stationFor_70 rfl (by decide) (lo' := [some (.ref o), some (IV (k : Int)), some (IV ((k : Int) + 1)), some (IV (σ.2 2 (σ.2 4 k).toNat))]) rfl ?_
                refine j_goto (pc := 73) (tgt := 4) dX2_stationFor_73 (by decide) ?_
                refine j_sub (lo' := [some (.ref o), some (IV (k : Int)), some (IV ((k : Int) + 1)), none]) ⟨Or.inr rfl, Or.inr rfl, Or.inr rfl, Or.inl rfl, trivial⟩ ?_
                exact ih_4 (k + 1) (k : Int) (by omega) (by omega) (by subst hz; simp only [sBest1]; split <;> first | rfl | omega)
  exact hl_4 _ 0 (-1) (Nat.lt_succ_self _) (by omega) rfl

theorem fa_X2_17_X2 : FA RX2 17 1 3 := ⟨RX2, TX2, 44, "BallotFoundryModel", rfl, in_X2, by decide, q1391, Or.inl rfl⟩
theorem md_yX2_street : MD yX2_street 2 := by decide +kernel
theorem fa_X2_7_X2 : FA RX2 7 1 1 := ⟨RX2, TX2, 44, "BallotFoundryModel", rfl, in_X2, by decide, q1389, Or.inl rfl⟩
set_option maxHeartbeats 4000000 in
theorem m_finds {Γ : GG} {l : Launch} {o : Nat} {ad : Nat → Nat} (σ : MM) (c : Int) (hc : isC c) (hB : Bd σ) : Ct Γ (AM o ad) (RepM Γ o ad) l yX2_finds (ws_ yX2_finds cX2_finds 6 none) 2 0 0 [.ref o, IV c] σ (qV (fun (σ' : MM) => σ' = sFinds σ c ∧ Bd σ')) X0 := by
  refine Ct.ofJ (own := RX2) (nm := "finds") (lo := [some (.ref o), some (IV c), none, none, none, none]) pn_X2 rfl rfl (List.forall_mem_cons.mpr ⟨rfl, (List.forall_mem_cons.mpr ⟨rfl, (fun _ h => nomatch h)⟩)⟩) (Nat.le_of_ble_eq_true rfl) rfl ?_
  have hQ : ∀ (σ' : MM), (σ' = sFinds σ c ∧ Bd σ') → (qV (fun (σ' : MM) => σ' = sFinds σ c ∧ Bd σ')) none σ' := fun σ' h => ⟨rfl, h⟩
  generalize (qV (fun (σ' : MM) => σ' = sFinds σ c ∧ Bd σ')) = QP at hQ ⊢
  refine j_iconst (pc := 0) dX2_finds_0 rfl ?_
  refine j_istore_n (pc := 1) dX2_finds_1 (by decide) (lo' := [some (.ref o), some (IV c), some (IV 0), none, none, none]) rfl ?_
  have hl_2 : ∀ (fu : Nat) (k : Nat), 36 - k < fu → k ≤ 36 → J Γ (AM o ad) (RepM Γ o ad) l RX2 "finds" cX2_finds 6 none [] 2 0 0 QP X0 0 0 (sFi σ k) 2 [some (.ref o), some (IV c), some (IV (k : Int)), none, none, none] [] := by
    intro fu
    induction fu with
    | zero => intro k hm; exact absurd hm (Nat.not_lt_zero _)
    | succ fu ih_2 =>
      intro k hm hk
      refine j_iload_n (pc := 2) dX2_finds_2 rfl ?_
      refine j_bipush (pc := 3) (a := 36) dX2_finds_3 (by decide) ?_
      refine j_icmp_ge (pc := 5) (tgt := 21) dX2_finds_5 (by decide) (by omega) (by decide) (fun c_5 => ?_) (fun c_5 => ?_)
      · obtain rfl : k = 36 := by omega
        refine j_aload_n (pc := 21) dX2_finds_21 rfl ?_
        refine m_getA (pc := 22) fa_X2_13_X2 (by decide) (by decide) dX2_finds_22 ?_
        refine j_iload_n (pc := 25) dX2_finds_25 rfl ?_
        refine j_iconst (pc := 26) dX2_finds_26 rfl ?_
        refine m_st (pc := 27) (by decide) (by decide) rfl (by show 0 ≤ c ∧ c < ((36 : Nat) : Int); omega) dX2_finds_27 ?_
        refine j_aload_n (pc := 28) dX2_finds_28 rfl ?_
        refine m_getA (pc := 29) fa_X2_17_X2 (by decide) (by decide) dX2_finds_29 ?_
        refine j_iconst (pc := 32) dX2_finds_32 rfl ?_
        refine j_iload_n (pc := 33) dX2_finds_33 rfl ?_
        refine m_st (pc := 34) (by decide) (by decide) rfl (by decide) dX2_finds_34 ?_
        refine j_iconst (pc := 35) dX2_finds_35 rfl ?_
        refine j_istore_n (pc := 36) dX2_finds_36 (by decide) (lo' := [some (.ref o), some (IV c), some (IV 1), none, none, none]) rfl ?_
        refine j_iconst (pc := 37) dX2_finds_37 rfl ?_
        refine j_istore_n (pc := 38) dX2_finds_38 (by decide) (lo' := [some (.ref o), some (IV c), some (IV 1), some (IV 0), none, none]) rfl ?_
        have hl_39 : ∀ (fu : Nat) (a : Nat) (s : MM) (m : Int), 36 - a < fu → sFo (setA (setA (sFi σ 36) 2 c.toNat 0) 3 0 c) 1 a = (s, m) → BI s m → (a : Int) ≤ m → J Γ (AM o ad) (RepM Γ o ad) l RX2 "finds" cX2_finds 6 none [] 2 0 0 QP X0 0 0 s 39 [some (.ref o), some (IV c), some (IV m), some (IV (a : Int)), none, none] [] := by
          intro fu
          induction fu with
          | zero => intro a s m hm; exact absurd hm (Nat.not_lt_zero _)
          | succ fu ih_39 =>
            intro a s m hm he hI ha
            have hm36 : 1 ≤ m ∧ m ≤ 36 := ⟨hI.2.1, hI.2.2.1⟩
            refine j_iload_n (pc := 39) dX2_finds_39 rfl ?_
            refine j_iload_n (pc := 40) dX2_finds_40 rfl ?_
            refine j_icmp_ge (pc := 41) (tgt := 137) dX2_finds_41 (by decide) (by omega) (by omega) (fun c_41 => ?_) (fun c_41 => ?_)
            · refine j_vret (pc := 137) rfl (hQ _ ?_) dX2_finds_137
              exact ⟨sFinds_of he (by omega) (by omega), hI.1⟩
            · refine j_iconst (pc := 44) dX2_finds_44 rfl ?_
              refine j_istore (pc := 45) dX2_finds_45 (by decide) (lo' := [some (.ref o), some (IV c), some (IV m), some (IV (a : Int)), some (IV 0), none]) rfl ?_
              have hl_47 : ∀ (fu : Nat) (n9 : Nat) (u : MM) (w : Int), 36 - n9 < fu → n9 ≤ 36 → sFs s m a n9 = (u, w) → BI u w → m ≤ w → J Γ (AM o ad) (RepM Γ o ad) l RX2 "finds" cX2_finds 6 none [] 2 0 0 QP X0 0 0 u 47 [some (.ref o), some (IV c), some (IV w), some (IV (a : Int)), some (IV (n9 : Int)), none] [] := by
                intro fu
                induction fu with
                | zero => intro n9 u w hm; exact absurd hm (Nat.not_lt_zero _)
                | succ fu ih_47 =>
                  intro n9 u w hm hn he2 hJ hw
                  have hw36 : 1 ≤ w ∧ w ≤ 36 := ⟨hJ.2.1, hJ.2.2.1⟩
                  have hra := hJ.2.2.2.2 a (by omega)
                  refine j_iload (pc := 47) dX2_finds_47 rfl ?_
                  refine j_bipush (pc := 49) (a := 36) dX2_finds_49 (by decide) ?_
                  refine j_icmp_ge (pc := 51) (tgt := 131) dX2_finds_51 (by decide) (by omega) (by decide) (fun c_51 => ?_) (fun c_51 => ?_)
                  · have e36 : n9 = 36 := by omega
                    rw [e36] at he2
                    refine j_iinc (pc := 131) dX2_finds_131 rfl (by decide) (lo' := [some (.ref o), some (IV c), some (IV w), some (IV ((a : Int) + 1)), some (IV (n9 : Int)), none]) rfl ?_
                    refine j_goto (pc := 134) (tgt := 39) dX2_finds_134 (by decide) ?_
                    refine j_sub (lo' := [some (.ref o), some (IV c), some (IV w), some (IV ((a : Int) + 1)), none, none]) ⟨Or.inr rfl, Or.inr rfl, Or.inr rfl, Or.inr rfl, Or.inl rfl, Or.inl rfl, trivial⟩ ?_
                    exact ih_39 (a + 1) u w (by omega) (sFo_succ he c_41 he2) hJ (by omega)
                  · refine j_aload_n (pc := 54) dX2_finds_54 rfl ?_
                    refine m_getA (pc := 55) fa_X2_17_X2 (by decide) (by decide) dX2_finds_55 ?_
                    refine j_iload_n (pc := 58) dX2_finds_58 rfl ?_
                    refine m_ld (pc := 59) (v := u.2 3 a) (by decide) (by decide) rfl (by show 0 ≤ (a : Int) ∧ (a : Int) < ((36 : Nat) : Int); omega) rfl dX2_finds_59 ?_
                    have n_1 : 0 ≤ u.2 3 a ∧ u.2 3 a ≤ 35 := hJ.1.2 3 a
                    refine j_iload (pc := 60) dX2_finds_60 rfl ?_
                    refine j_callS (pc := 62) (m_street u (u.2 3 a) (n9 : Int) (by omega) (by omega)) (lw_S q1535 q1536 q48 q1537) md_yX2_street (by decide) (by decide) rfl (Nat.le_of_ble_eq_true rfl) dX2_finds_62 (qI.k (fun r_62 s_62 q_62 => ?_))
                    obtain ⟨e1q_62, e2q_62⟩ := q_62
                    subst r_62
                    subst s_62
                    have rs_62 := sStreet_rng (a := (u.2 3 a)) (b := (n9 : Int)) (by omega) (by omega)
                    refine j_istore (pc := 65) dX2_finds_65 (by decide) (lo' := [some (.ref o), some (IV c), some (IV w), some (IV (a : Int)), some (IV (n9 : Int)), some (IV (sStreet (u.2 3 a) (n9 : Int)))]) rfl ?_
                    refine j_iload (pc := 67) dX2_finds_67 rfl ?_
                    refine j_iconst (pc := 69) dX2_finds_69 rfl ?_
                    refine j_icmp_eq (pc := 70) (tgt := 125) dX2_finds_70 (by decide) (by omega) (by decide) (fun c_70 => ?_) (fun c_70 => ?_)
                    · refine j_iinc (pc := 125) dX2_finds_125 rfl (by decide) (lo' := [some (.ref o), some (IV c), some (IV w), some (IV (a : Int)), some (IV ((n9 : Int) + 1)), some (IV (sStreet (u.2 3 a) (n9 : Int)))]) rfl ?_
                      refine j_goto (pc := 128) (tgt := 47) dX2_finds_128 (by decide) ?_
                      refine j_sub (lo' := [some (.ref o), some (IV c), some (IV w), some (IV (a : Int)), some (IV ((n9 : Int) + 1)), none]) ⟨Or.inr rfl, Or.inr rfl, Or.inr rfl, Or.inr rfl, Or.inr rfl, Or.inl rfl, trivial⟩ ?_
                      exact ih_47 (n9 + 1) u w (by omega) (by omega) (sFs_skip he2 (by omega)) hJ (by omega)
                    · refine j_aload_n (pc := 73) dX2_finds_73 rfl ?_
                      refine m_getA (pc := 74) fa_X2_7_X2 (by decide) (by decide) dX2_finds_74 ?_
                      refine j_iload (pc := 77) dX2_finds_77 rfl ?_
                      refine m_zld (pc := 79) (v := u.2 1 (sStreet (u.2 3 a) (n9 : Int)).toNat) (by decide) (by decide) rfl (by show 0 ≤ sStreet (u.2 3 a) (n9 : Int) ∧ sStreet (u.2 3 a) (n9 : Int) < ((72 : Nat) : Int); omega) rfl dX2_finds_79 ?_
                      have n_2 : 0 ≤ u.2 1 (sStreet (u.2 3 a) (n9 : Int)).toNat ∧ u.2 1 (sStreet (u.2 3 a) (n9 : Int)).toNat ≤ 1 := hJ.1.2 1 ((sStreet (u.2 3 a) (n9 : Int)).toNat)
                      refine j_if_ne (pc := 80) (tgt := 125) dX2_finds_80 (by decide) (by omega) (fun c_80 => ?_) (fun c_80 => ?_)
                      · refine j_iinc (pc := 125) dX2_finds_125 rfl (by decide) (lo' := [some (.ref o), some (IV c), some (IV w), some (IV (a : Int)), some (IV ((n9 : Int) + 1)), some (IV (sStreet (u.2 3 a) (n9 : Int)))]) rfl ?_
                        refine j_goto (pc := 128) (tgt := 47) dX2_finds_128 (by decide) ?_
                        refine j_sub (lo' := [some (.ref o), some (IV c), some (IV w), some (IV (a : Int)), some (IV ((n9 : Int) + 1)), none]) ⟨Or.inr rfl, Or.inr rfl, Or.inr rfl, Or.inr rfl, Or.inr rfl, Or.inl rfl, trivial⟩ ?_
                        exact ih_47 (n9 + 1) u w (by omega) (by omega) (sFs_skip he2 (by omega)) hJ (by omega)
                      · refine j_aload_n (pc := 83) dX2_finds_83 rfl ?_
                        refine m_getA (pc := 84) fa_X2_13_X2 (by decide) (by decide) dX2_finds_84 ?_
                        refine j_iload (pc := 87) dX2_finds_87 rfl ?_
                        refine m_ld (pc := 89) (v := u.2 2 n9) (by decide) (by decide) rfl (by show 0 ≤ (n9 : Int) ∧ (n9 : Int) < ((36 : Nat) : Int); omega) rfl dX2_finds_89 ?_
                        have n_3 : (-1) ≤ u.2 2 n9 ∧ u.2 2 n9 ≤ 36 := hJ.1.2 2 n9
                        refine j_iconst (pc := 90) dX2_finds_90 rfl ?_
                        refine j_icmp_ne (pc := 91) (tgt := 125) dX2_finds_91 (by decide) (by omega) (by decide) (fun c_91 => ?_) (fun c_91 => ?_)
                        · refine j_iinc (pc := 125) dX2_finds_125 rfl (by decide) (lo' := [some (.ref o), some (IV c), some (IV w), some (IV (a : Int)), some (IV ((n9 : Int) + 1)), some (IV (sStreet (u.2 3 a) (n9 : Int)))]) rfl ?_
                          refine j_goto (pc := 128) (tgt := 47) dX2_finds_128 (by decide) ?_
                          refine j_sub (lo' := [some (.ref o), some (IV c), some (IV w), some (IV (a : Int)), some (IV ((n9 : Int) + 1)), none]) ⟨Or.inr rfl, Or.inr rfl, Or.inr rfl, Or.inr rfl, Or.inr rfl, Or.inl rfl, trivial⟩ ?_
                          exact ih_47 (n9 + 1) u w (by omega) (by omega) (sFs_skip he2 (by omega)) hJ (by omega)
                        · have hw35 := hJ.far_lt (n := n9) (by omega) c_91
                          refine j_aload_n (pc := 94) dX2_finds_94 rfl ?_
                          refine m_getA (pc := 95) fa_X2_13_X2 (by decide) (by decide) dX2_finds_95 ?_
                          refine j_iload (pc := 98) dX2_finds_98 rfl ?_
                          refine j_aload_n (pc := 100) dX2_finds_100 rfl ?_
                          refine m_getA (pc := 101) fa_X2_13_X2 (by decide) (by decide) dX2_finds_101 ?_
                          refine j_aload_n (pc := 104) dX2_finds_104 rfl ?_
                          refine m_getA (pc := 105) fa_X2_17_X2 (by decide) (by decide) dX2_finds_105 ?_
                          refine j_iload_n (pc := 108) dX2_finds_108 rfl ?_
                          refine m_ld (pc := 109) (v := u.2 3 a) (by decide) (by decide) rfl (by show 0 ≤ (a : Int) ∧ (a : Int) < ((36 : Nat) : Int); omega) rfl dX2_finds_109 ?_
                          refine m_ld (pc := 110) (v := u.2 2 (u.2 3 a).toNat) (by decide) (by decide) rfl (by show 0 ≤ u.2 3 a ∧ u.2 3 a < ((36 : Nat) : Int); omega) rfl dX2_finds_110 ?_
                          have n_4 : (-1) ≤ u.2 2 (u.2 3 a).toNat ∧ u.2 2 (u.2 3 a).toNat ≤ 36 := hJ.1.2 2 ((u.2 3 a).toNat)
                          refine j_iconst (pc := 111) dX2_finds_111 rfl ?_
                          refine j_iadd (pc := 112) dX2_finds_112 ?_
                          refine m_st (pc := 113) (by decide) (by decide) rfl (by show 0 ≤ (n9 : Int) ∧ (n9 : Int) < ((36 : Nat) : Int); omega) dX2_finds_113 ?_
                          refine j_aload_n (pc := 114) dX2_finds_114 rfl ?_
                          refine m_getA (pc := 115) fa_X2_17_X2 (by decide) (by decide) dX2_finds_115 ?_
                          refine j_iload_n (pc := 118) dX2_finds_118 rfl ?_
                          refine j_iload (pc := 119) dX2_finds_119 rfl ?_
                          refine m_st (pc := 121) (by decide) (by decide) rfl (by show 0 ≤ w ∧ w < ((36 : Nat) : Int); omega) dX2_finds_121 ?_
                          refine j_iinc (pc := 122) dX2_finds_122 rfl (by decide) (lo' := [some (.ref o), some (IV c), some (IV (w + 1)), some (IV (a : Int)), some (IV (n9 : Int)), some (IV (sStreet (u.2 3 a) (n9 : Int)))]) rfl ?_
                          refine j_iinc (pc := 125) dX2_finds_125 rfl (by decide) (lo' := [some (.ref o), some (IV c), some (IV (w + 1)), some (IV (a : Int)), some (IV ((n9 : Int) + 1)), some (IV (sStreet (u.2 3 a) (n9 : Int)))]) rfl ?_
                          refine j_goto (pc := 128) (tgt := 47) dX2_finds_128 (by decide) ?_
                          refine j_sub (lo' := [some (.ref o), some (IV c), some (IV (w + 1)), some (IV (a : Int)), some (IV ((n9 : Int) + 1)), none]) ⟨Or.inr rfl, Or.inr rfl, Or.inr rfl, Or.inr rfl, Or.inr rfl, Or.inl rfl, trivial⟩ ?_
                          exact ih_47 (n9 + 1) (setA (setA u 2 n9 ((u.2 2 (u.2 3 a).toNat) + 1)) 3 (w).toNat (n9 : Int)) (w + 1) (by omega) (by omega) (sFs_go he2 ⟨c_70, by omega, c_91⟩) (hJ.step (by omega) (by omega) c_91) (by omega)
              exact hl_47 _ 0 s m (Nat.lt_succ_self _) (by omega) rfl hI (by omega)
        exact hl_39 _ 0 (setA (setA (sFi σ 36) 2 c.toNat 0) 3 0 c) 1 (Nat.lt_succ_self _) rfl (BI.start hB hc) (by omega)
      · refine j_aload_n (pc := 8) dX2_finds_8 rfl ?_
        refine m_getA (pc := 9) fa_X2_13_X2 (by decide) (by decide) dX2_finds_9 ?_
        refine j_iload_n (pc := 12) dX2_finds_12 rfl ?_
        refine j_iconst (pc := 13) dX2_finds_13 rfl ?_
        refine m_st (pc := 14) (by decide) (by decide) rfl (by show 0 ≤ (k : Int) ∧ (k : Int) < ((36 : Nat) : Int); omega) dX2_finds_14 ?_
        refine j_iinc (pc := 15) dX2_finds_15 rfl (by decide) (lo' := [some (.ref o), some (IV c), some (IV ((k : Int) + 1)), none, none, none]) rfl ?_
        refine j_goto (pc := 18) (tgt := 2) dX2_finds_18 (by decide) ?_
        exact ih_2 (k + 1) (by omega) (by omega)
  exact hl_2 _ 0 (Nat.lt_succ_self _) (by omega)

