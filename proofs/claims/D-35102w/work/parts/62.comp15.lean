set_option maxRecDepth 100000
theorem fa_X1_153_X3 : FA RX1 153 3 0 := ⟨RX3, TX3, 2, "BallotFoundry$Station", rfl, in_X3, by decide, q468, Or.inl rfl⟩
set_option maxHeartbeats 4000000 in
theorem c_near1 {Γ : GG} {A : Nat → Prop} {K : KK} {l : Launch} (h : AL2) (hfe : FE Γ) (o : Nat) (ad : AD) (σ : MM) (hR : Rel K h o ad σ) (hB : Bd σ) (hz : σ.1 14 ≠ 0) (h69 : σ.1 19 = σ.1 6) : Ct Γ A (Rep2 Γ A K) l yX1_nearest (ws_ yX1_nearest cX1_nearest 9 (some .int)) 4 0 0 [.ref o, IV 1] h (qI (fun (r : Int) (h' : AL2) => r = sBest1 σ (σ.1 19).toNat ∧ h' = h)) X0 := by
  refine Ct.ofJ (own := RX1) (nm := "nearest") (lo := [some (.ref o), some (IV 1), none, none, none, none, none, none, none]) pn_X1 rfl rfl (List.forall_mem_cons.mpr ⟨rfl, (List.forall_mem_cons.mpr ⟨rfl, (fun _ h => nomatch h)⟩)⟩) (Nat.le_of_ble_eq_true rfl) rfl ?_
  have hQ : ∀ (r : Int) (h' : AL2), (r = sBest1 σ (σ.1 19).toNat ∧ h' = h) → (qI (fun (r : Int) (h' : AL2) => r = sBest1 σ (σ.1 19).toNat ∧ h' = h)) (some (IV r)) h' := fun r h' h => ⟨r, rfl, h⟩
  generalize (qI (fun (r : Int) (h' : AL2) => r = sBest1 σ (σ.1 19).toNat ∧ h' = h)) = QP at hQ ⊢
  have n6 : 0 ≤ σ.1 6 ∧ σ.1 6 ≤ 5 := hB.1 6
  have n19 : 0 ≤ σ.1 19 ∧ σ.1 19 ≤ 5 := hB.1 19
  refine j_iconst (pc := 0) dX1_nearest_0 rfl ?_
  refine j_istore_n (pc := 1) dX1_nearest_1 (by decide) (lo' := [some (.ref o), some (IV 1), some (IV (-1)), none, none, none, none, none, none]) rfl ?_
  refine j_iconst (pc := 2) dX1_nearest_2 rfl ?_
  refine j_istore_n (pc := 3) dX1_nearest_3 (by decide) (lo' := [some (.ref o), some (IV 1), some (IV (-1)), some (IV 0), none, none, none, none, none]) rfl ?_
  have hl_4 : ∀ (fu : Nat) (k : Nat) (z : Int), (σ.1 19).toNat - k < fu → (k : Int) ≤ σ.1 19 → z = sBest1 σ k → J Γ A (Rep2 Γ A K) l RX1 "nearest" cX1_nearest 9 (some .int) [] 4 0 0 QP X0 0 0 h 4 [some (.ref o), some (IV 1), some (IV z), some (IV (k : Int)), none, none, none, none, none] [] := by
    intro fu
    induction fu with
    | zero => intro k z hm; exact absurd hm (Nat.not_lt_zero _)
    | succ fu ih_4 =>
      intro k z hm hk hz9
      have hr9 := sBest1_rng σ k
      rw [← hz9] at hr9
      refine j_iload_n (pc := 4) dX1_nearest_4 rfl ?_
      refine j_aload_n (pc := 5) dX1_nearest_5 rfl ?_
      refine j2_get fa_X1_20_X1 (show h (o) = some (pO 0 [.ref (ad 1 0 0), .ref (ad 2 0 0), .ref (ad 3 0 0), .ref (ad 4 0 0), .ref (ad 12 0 0), IV (σ.1 0), .ref (ad 5 0 0), .ref (ad 6 0 0)]) from hR.top1 hz) rfl dX1_nearest_6 ?_
      refine j_callF (pc := 9) (xm := ⟨"java/util/List", "size", "()I"⟩) (l2_size (show h (ad 3 0 0) = some (pL (rg (σ.1 6) (fun p => ad 8 p 0))) from hR.at 3 0 0 ⟨rfl, rfl⟩)) (lw_F q155 q159 q161 q47 q163) hfe.1 (ci := 2) rfl rfl mdx_yJ2_size (RC.ofL (show h (ad 3 0 0) = some (pL (rg (σ.1 6) (fun p => ad 8 p 0))) from hR.at 3 0 0 ⟨rfl, rfl⟩)) (by decide) (by decide) rfl (Nat.le_of_ble_eq_true rfl) dX1_nearest_9 (qI.k (fun r_9 s_9 q_9 => ?_))
      obtain ⟨e1q_9, e2q_9⟩ := q_9
      subst s_9
      rw [rg_len (by omega)] at e1q_9
      subst r_9
      refine j_icmp_ge (pc := 14) (tgt := 199) dX1_nearest_14 (by decide) (by omega) (by omega) (fun c_14 => ?_) (fun c_14 => ?_)
      · refine j_iload_n (pc := 199) dX1_nearest_199 rfl ?_
        refine j_iret (pc := 200) rfl (hQ _ _ ?_) dX1_nearest_200
        exact ⟨by rw [hz9, show k = (σ.1 19).toNat by omega], rfl⟩
      · refine j_aload_n (pc := 17) dX1_nearest_17 rfl ?_
        refine j2_get fa_X1_27_X1 (show h (o) = some (pO 0 [.ref (ad 1 0 0), .ref (ad 2 0 0), .ref (ad 3 0 0), .ref (ad 4 0 0), .ref (ad 12 0 0), IV (σ.1 0), .ref (ad 5 0 0), .ref (ad 6 0 0)]) from hR.top1 hz) rfl dX1_nearest_18 ?_
        refine j_aload_n (pc := 21) dX1_nearest_21 rfl ?_
        refine j2_get fa_X1_20_X1 (show h (o) = some (pO 0 [.ref (ad 1 0 0), .ref (ad 2 0 0), .ref (ad 3 0 0), .ref (ad 4 0 0), .ref (ad 12 0 0), IV (σ.1 0), .ref (ad 5 0 0), .ref (ad 6 0 0)]) from hR.top1 hz) rfl dX1_nearest_22 ?_
        refine j_iload_n (pc := 25) dX1_nearest_25 rfl ?_
        refine j_callF (pc := 26) (xm := ⟨"java/util/List", "get", "(I)Ljava/lang/Object;"⟩) (l2_get (show h (ad 3 0 0) = some (pL (rg (σ.1 6) (fun p => ad 8 p 0))) from hR.at 3 0 0 ⟨rfl, rfl⟩) (i := (k : Int)) (v := ad 8 k 0) (by omega) (rg_at (by omega) (by omega))) (lw_F q551 q185 q187 q47 q189) hfe.2.2.1 (ci := 2) rfl rfl mdx_yJ2_get (RC.ofL (show h (ad 3 0 0) = some (pL (rg (σ.1 6) (fun p => ad 8 p 0))) from hR.at 3 0 0 ⟨rfl, rfl⟩)) (by decide) (by decide) rfl (Nat.le_of_ble_eq_true rfl) dX1_nearest_26 (qR.k (fun r_26 s_26 q_26 => ?_))
        obtain ⟨e1q_26, e2q_26⟩ := q_26
        subst r_26
        subst s_26
        refine j2_castS (C := RX3) rfl q461 (show h (ad 8 k 0) = some (pO 3 [IV (σ.2 4 k), IV (σ.2 5 k)]) from hR.at 8 k 0 ⟨(by omega), rfl⟩) dX1_nearest_31 ?_
        refine j2_get fa_X1_153_X3 (show h (ad 8 k 0) = some (pO 3 [IV (σ.2 4 k), IV (σ.2 5 k)]) from hR.at 8 k 0 ⟨(by omega), rfl⟩) rfl dX1_nearest_34 ?_
        have n_1 : 0 ≤ σ.2 4 k ∧ σ.2 4 k ≤ 35 := hB.2 4 k
        refine j2_iald (i := σ.2 4 k) (show h (ad 5 0 0) = some (pA 0 36 (σ.2 2)) from hR.at 5 0 0 ⟨rfl, rfl⟩) (by show 0 ≤ σ.2 4 k ∧ σ.2 4 k < ((36 : Nat) : Int); omega) dX1_nearest_37 ?_
        have n_2 : (-1) ≤ σ.2 2 (σ.2 4 k).toNat ∧ σ.2 2 (σ.2 4 k).toNat ≤ 36 := hB.2 2 ((σ.2 4 k).toNat)
        refine j_istore (pc := 38) dX1_nearest_38 (by decide) (lo' := [some (.ref o), some (IV 1), some (IV z), some (IV (k : Int)), some (IV (σ.2 2 (σ.2 4 k).toNat)), none, none, none, none]) rfl ?_
        refine j_aload_n (pc := 40) dX1_nearest_40 rfl ?_
        refine j2_get fa_X1_58_X1 (show h (o) = some (pO 0 [.ref (ad 1 0 0), .ref (ad 2 0 0), .ref (ad 3 0 0), .ref (ad 4 0 0), .ref (ad 12 0 0), IV (σ.1 0), .ref (ad 5 0 0), .ref (ad 6 0 0)]) from hR.top1 hz) rfl dX1_nearest_41 ?_
        refine j2_get fa_X1_62_X9 (show h (ad 12 0 0) = some (pO 7 [IV (σ.1 15), IV (σ.1 16), IV (σ.1 17), .ref (ad 13 0 0), .ref (ad 14 0 0), .ref (ad 15 0 0), .ref (ad 16 0 0), .ref (ad 17 0 0), .ref (ad 18 0 0), IV (σ.1 14)]) from hR.at 12 0 0 ⟨hz, rfl, rfl⟩) rfl dX1_nearest_44 ?_
        refine j_iload_n (pc := 47) dX1_nearest_47 rfl ?_
        refine j_callF (pc := 48) (xm := ⟨"java/util/List", "get", "(I)Ljava/lang/Object;"⟩) (l2_get (show h (ad 16 0 0) = some (pL (rg (σ.1 19) (fun q => ad 19 q 0))) from hR.at 16 0 0 ⟨hz, rfl, rfl⟩) (i := (k : Int)) (v := ad 19 k 0) (by omega) (rg_at (by omega) (by omega))) (lw_F q551 q185 q187 q47 q189) hfe.2.2.1 (ci := 2) rfl rfl mdx_yJ2_get (RC.ofL (show h (ad 16 0 0) = some (pL (rg (σ.1 19) (fun q => ad 19 q 0))) from hR.at 16 0 0 ⟨hz, rfl, rfl⟩)) (by decide) (by decide) rfl (Nat.le_of_ble_eq_true rfl) dX1_nearest_48 (qR.k (fun r_48 s_48 q_48 => ?_))
        obtain ⟨e1q_48, e2q_48⟩ := q_48
        subst r_48
        subst s_48
        refine j2_castS (C := RX10) rfl q777 (show h (ad 19 k 0) = some (pO 8 [.ref (ad 20 k 0), .ref (ad 21 k 0), va_rf (if σ.2 32 k = -1 then none else some (ad 24 k 0)), IV (σ.2 21 k)]) from hR.at 19 k 0 ⟨hz, (by omega), rfl⟩) dX1_nearest_53 ?_
        refine j2_get fa_X1_156_X10 (show h (ad 19 k 0) = some (pO 8 [.ref (ad 20 k 0), .ref (ad 21 k 0), va_rf (if σ.2 32 k = -1 then none else some (ad 24 k 0)), IV (σ.2 21 k)]) from hR.at 19 k 0 ⟨hz, (by omega), rfl⟩) rfl dX1_nearest_56 ?_
        have n_3 : 0 ≤ σ.2 21 k ∧ σ.2 21 k ≤ 20 := hB.2 21 k
        refine j_istore (pc := 59) dX1_nearest_59 (by decide) (lo' := [some (.ref o), some (IV 1), some (IV z), some (IV (k : Int)), some (IV (σ.2 2 (σ.2 4 k).toNat)), some (IV (σ.2 21 k)), none, none, none]) rfl ?_
        refine j_iload (pc := 61) dX1_nearest_61 rfl ?_
        refine j_iconst (pc := 63) dX1_nearest_63 rfl ?_
        refine j_icmp_eq (pc := 64) (tgt := 96) dX1_nearest_64 (by decide) (by omega) (by decide) (fun c_64 => ?_) (fun c_64 => ?_)
        · refine j_iconst (pc := 96) dX1_nearest_96 rfl ?_
          refine j_istore (pc := 97) dX1_nearest_97 (by decide) (lo' := [some (.ref o), some (IV 1), some (IV z), some (IV (k : Int)), some (IV (σ.2 2 (σ.2 4 k).toNat)), some (IV (σ.2 21 k)), some (IV 0), none, none]) rfl ?_
          refine j_iload_n (pc := 99) dX1_nearest_99 rfl ?_
          refine j_if_eq (pc := 100) (tgt := 108) dX1_nearest_100 (by decide) (by decide) (fun c_100 => ?_) (fun c_100 => ?_)
          · exact absurd c_100 (by decide)
          · refine j_iload (pc := 103) dX1_nearest_103 rfl ?_
            refine j_goto (pc := 105) (tgt := 110) dX1_nearest_105 (by decide) ?_
            refine j_istore (pc := 110) dX1_nearest_110 (by decide) (lo' := [some (.ref o), some (IV 1), some (IV z), some (IV (k : Int)), some (IV (σ.2 2 (σ.2 4 k).toNat)), some (IV (σ.2 21 k)), some (IV 0), some (IV (σ.2 2 (σ.2 4 k).toNat)), none]) rfl ?_
            refine j_iload_n (pc := 112) dX1_nearest_112 rfl ?_
            refine j_iconst (pc := 113) dX1_nearest_113 rfl ?_
            refine j_icmp_ne (pc := 114) (tgt := 121) dX1_nearest_114 (by decide) (by omega) (by decide) (fun c_114 => ?_) (fun c_114 => ?_)
            · refine j_iload_n (pc := 121) dX1_nearest_121 rfl ?_
              refine j_if_eq (pc := 122) (tgt := 149) dX1_nearest_122 (by decide) (by decide) (fun c_122 => ?_) (fun c_122 => ?_)
              · exact absurd c_122 (by decide)
              · refine j_aload_n (pc := 125) dX1_nearest_125 rfl ?_
                refine j2_get fa_X1_27_X1 (show h (o) = some (pO 0 [.ref (ad 1 0 0), .ref (ad 2 0 0), .ref (ad 3 0 0), .ref (ad 4 0 0), .ref (ad 12 0 0), IV (σ.1 0), .ref (ad 5 0 0), .ref (ad 6 0 0)]) from hR.top1 hz) rfl dX1_nearest_126 ?_
                refine j_aload_n (pc := 129) dX1_nearest_129 rfl ?_
                refine j2_get fa_X1_20_X1 (show h (o) = some (pO 0 [.ref (ad 1 0 0), .ref (ad 2 0 0), .ref (ad 3 0 0), .ref (ad 4 0 0), .ref (ad 12 0 0), IV (σ.1 0), .ref (ad 5 0 0), .ref (ad 6 0 0)]) from hR.top1 hz) rfl dX1_nearest_130 ?_
                refine j_iload_n (pc := 133) dX1_nearest_133 rfl ?_
                refine j_callF (pc := 134) (xm := ⟨"java/util/List", "get", "(I)Ljava/lang/Object;"⟩) (l2_get (show h (ad 3 0 0) = some (pL (rg (σ.1 6) (fun p => ad 8 p 0))) from hR.at 3 0 0 ⟨rfl, rfl⟩) (i := z) (v := ad 8 (z).toNat 0) (by omega) (rg_at (by omega) (by omega))) (lw_F q551 q185 q187 q47 q189) hfe.2.2.1 (ci := 2) rfl rfl mdx_yJ2_get (RC.ofL (show h (ad 3 0 0) = some (pL (rg (σ.1 6) (fun p => ad 8 p 0))) from hR.at 3 0 0 ⟨rfl, rfl⟩)) (by decide) (by decide) rfl (Nat.le_of_ble_eq_true rfl) dX1_nearest_134 (qR.k (fun r_134 s_134 q_134 => ?_))
                obtain ⟨e1q_134, e2q_134⟩ := q_134
                subst r_134
                subst s_134
                refine j2_castS (C := RX3) rfl q461 (show h (ad 8 (z).toNat 0) = some (pO 3 [IV (σ.2 4 (z).toNat), IV (σ.2 5 (z).toNat)]) from hR.at 8 (z).toNat 0 ⟨(by omega), rfl⟩) dX1_nearest_139 ?_
                refine j2_get fa_X1_153_X3 (show h (ad 8 (z).toNat 0) = some (pO 3 [IV (σ.2 4 (z).toNat), IV (σ.2 5 (z).toNat)]) from hR.at 8 (z).toNat 0 ⟨(by omega), rfl⟩) rfl dX1_nearest_142 ?_
                have n_4 : 0 ≤ σ.2 4 (z).toNat ∧ σ.2 4 (z).toNat ≤ 35 := hB.2 4 ((z).toNat)
                refine j2_iald (i := σ.2 4 (z).toNat) (show h (ad 5 0 0) = some (pA 0 36 (σ.2 2)) from hR.at 5 0 0 ⟨rfl, rfl⟩) (by show 0 ≤ σ.2 4 (z).toNat ∧ σ.2 4 (z).toNat < ((36 : Nat) : Int); omega) dX1_nearest_145 ?_
                have n_5 : (-1) ≤ σ.2 2 (σ.2 4 (z).toNat).toNat ∧ σ.2 2 (σ.2 4 (z).toNat).toNat ≤ 36 := hB.2 2 ((σ.2 4 (z).toNat).toNat)
                refine j_goto (pc := 146) (tgt := 168) dX1_nearest_146 (by decide) ?_
                refine j_istore (pc := 168) dX1_nearest_168 (by decide) (lo' := [some (.ref o), some (IV 1), some (IV z), some (IV (k : Int)), some (IV (σ.2 2 (σ.2 4 k).toNat)), some (IV (σ.2 21 k)), some (IV 0), some (IV (σ.2 2 (σ.2 4 k).toNat)), some (IV (σ.2 2 (σ.2 4 (z).toNat).toNat))]) rfl ?_
                refine j_iload (pc := 170) dX1_nearest_170 rfl ?_
                refine j_if_eq (pc := 172) (tgt := 191) dX1_nearest_172 (by decide) (by decide) (fun c_172 => ?_) (fun c_172 => ?_)
                · refine j_iload_n (pc := 191) dX1_nearest_191 rfl ?_
                  refine j_istore_n (pc := 192) dX1_nearest_192 (by decide) (lo' := [some (.ref o), some (IV 1), some (IV z), some (IV (k : Int)), some (IV (σ.2 2 (σ.2 4 k).toNat)), some (IV (σ.2 21 k)), some (IV 0), some (IV (σ.2 2 (σ.2 4 k).toNat)), some (IV (σ.2 2 (σ.2 4 (z).toNat).toNat))]) rfl ?_
                  refine j_iinc (pc := 193) dX1_nearest_193 rfl (by decide) (lo' := [some (.ref o), some (IV 1), some (IV z), some (IV ((k : Int) + 1)), some (IV (σ.2 2 (σ.2 4 k).toNat)), some (IV (σ.2 21 k)), some (IV 0), some (IV (σ.2 2 (σ.2 4 k).toNat)), some (IV (σ.2 2 (σ.2 4 (z).toNat).toNat))]) rfl ?_
                  refine j_goto (pc := 196) (tgt := 4) dX1_nearest_196 (by decide) ?_
                  refine j_sub (lo' := [some (.ref o), some (IV 1), some (IV z), some (IV ((k : Int) + 1)), none, none, none, none, none]) ⟨Or.inr rfl, Or.inr rfl, Or.inr rfl, Or.inr rfl, Or.inl rfl, Or.inl rfl, Or.inl rfl, Or.inl rfl, Or.inl rfl, trivial⟩ ?_
                  exact ih_4 (k + 1) z (by omega) (by omega) (by subst hz9; simp only [sBest1]; split <;> first | rfl | omega)
                · exact absurd c_172 (by decide)
            · refine j_iconst (pc := 117) dX1_nearest_117 rfl ?_
              refine j_goto (pc := 118) (tgt := 168) dX1_nearest_118 (by decide) ?_
              refine j_istore (pc := 168) dX1_nearest_168 (by decide) (lo' := [some (.ref o), some (IV 1), some (IV z), some (IV (k : Int)), some (IV (σ.2 2 (σ.2 4 k).toNat)), some (IV (σ.2 21 k)), some (IV 0), some (IV (σ.2 2 (σ.2 4 k).toNat)), some (IV (-1))]) rfl ?_
              refine j_iload (pc := 170) dX1_nearest_170 rfl ?_
              refine j_if_eq (pc := 172) (tgt := 191) dX1_nearest_172 (by decide) (by decide) (fun c_172_1 => ?_) (fun c_172_1 => ?_)
              · refine j_iload_n (pc := 191) dX1_nearest_191 rfl ?_
                refine j_istore_n (pc := 192) dX1_nearest_192 (by decide) (lo' := [some (.ref o), some (IV 1), some (IV z), some (IV (k : Int)), some (IV (σ.2 2 (σ.2 4 k).toNat)), some (IV (σ.2 21 k)), some (IV 0), some (IV (σ.2 2 (σ.2 4 k).toNat)), some (IV (-1))]) rfl ?_
                refine j_iinc (pc := 193) dX1_nearest_193 rfl (by decide) (lo' := [some (.ref o), some (IV 1), some (IV z), some (IV ((k : Int) + 1)), some (IV (σ.2 2 (σ.2 4 k).toNat)), some (IV (σ.2 21 k)), some (IV 0), some (IV (σ.2 2 (σ.2 4 k).toNat)), some (IV (-1))]) rfl ?_
                refine j_goto (pc := 196) (tgt := 4) dX1_nearest_196 (by decide) ?_
                refine j_sub (lo' := [some (.ref o), some (IV 1), some (IV z), some (IV ((k : Int) + 1)), none, none, none, none, none]) ⟨Or.inr rfl, Or.inr rfl, Or.inr rfl, Or.inr rfl, Or.inl rfl, Or.inl rfl, Or.inl rfl, Or.inl rfl, Or.inl rfl, trivial⟩ ?_
                exact ih_4 (k + 1) z (by omega) (by omega) (by subst hz9; simp only [sBest1]; split <;> first | rfl | omega)
              · exact absurd c_172_1 (by decide)
        · refine j_iload_n (pc := 67) dX1_nearest_67 rfl ?_
          refine j_if_eq (pc := 68) (tgt := 92) dX1_nearest_68 (by decide) (by decide) (fun c_68 => ?_) (fun c_68 => ?_)
          · exact absurd c_68 (by decide)
          · refine j_iload (pc := 71) dX1_nearest_71 rfl ?_
            refine j_aload_n (pc := 73) dX1_nearest_73 rfl ?_
            refine j2_get fa_X1_20_X1 (show h (o) = some (pO 0 [.ref (ad 1 0 0), .ref (ad 2 0 0), .ref (ad 3 0 0), .ref (ad 4 0 0), .ref (ad 12 0 0), IV (σ.1 0), .ref (ad 5 0 0), .ref (ad 6 0 0)]) from hR.top1 hz) rfl dX1_nearest_74 ?_
            refine j_iload_n (pc := 77) dX1_nearest_77 rfl ?_
            refine j_callF (pc := 78) (xm := ⟨"java/util/List", "get", "(I)Ljava/lang/Object;"⟩) (l2_get (show h (ad 3 0 0) = some (pL (rg (σ.1 6) (fun p => ad 8 p 0))) from hR.at 3 0 0 ⟨rfl, rfl⟩) (i := (k : Int)) (v := ad 8 k 0) (by omega) (rg_at (by omega) (by omega))) (lw_F q551 q185 q187 q47 q189) hfe.2.2.1 (ci := 2) rfl rfl mdx_yJ2_get (RC.ofL (show h (ad 3 0 0) = some (pL (rg (σ.1 6) (fun p => ad 8 p 0))) from hR.at 3 0 0 ⟨rfl, rfl⟩)) (by decide) (by decide) rfl (Nat.le_of_ble_eq_true rfl) dX1_nearest_78 (qR.k (fun r_78 s_78 q_78 => ?_))
            obtain ⟨e1q_78, e2q_78⟩ := q_78
            subst r_78
            subst s_78
            refine j2_castS (C := RX3) rfl q461 (show h (ad 8 k 0) = some (pO 3 [IV (σ.2 4 k), IV (σ.2 5 k)]) from hR.at 8 k 0 ⟨(by omega), rfl⟩) dX1_nearest_83 ?_
            refine j2_get fa_X1_106_X3 (show h (ad 8 k 0) = some (pO 3 [IV (σ.2 4 k), IV (σ.2 5 k)]) from hR.at 8 k 0 ⟨(by omega), rfl⟩) rfl dX1_nearest_86 ?_
            have n_6 : 0 ≤ σ.2 5 k ∧ σ.2 5 k ≤ 20 := hB.2 5 k
            refine j_icmp_ge (pc := 89) (tgt := 96) dX1_nearest_89 (by decide) (by omega) (by omega) (fun c_89 => ?_) (fun c_89 => ?_)
            · refine j_iconst (pc := 96) dX1_nearest_96 rfl ?_
              refine j_istore (pc := 97) dX1_nearest_97 (by decide) (lo' := [some (.ref o), some (IV 1), some (IV z), some (IV (k : Int)), some (IV (σ.2 2 (σ.2 4 k).toNat)), some (IV (σ.2 21 k)), some (IV 0), none, none]) rfl ?_
              refine j_iload_n (pc := 99) dX1_nearest_99 rfl ?_
              refine j_if_eq (pc := 100) (tgt := 108) dX1_nearest_100 (by decide) (by decide) (fun c_100_1 => ?_) (fun c_100_1 => ?_)
              · exact absurd c_100_1 (by decide)
              · refine j_iload (pc := 103) dX1_nearest_103 rfl ?_
                refine j_goto (pc := 105) (tgt := 110) dX1_nearest_105 (by decide) ?_
                refine j_istore (pc := 110) dX1_nearest_110 (by decide) (lo' := [some (.ref o), some (IV 1), some (IV z), some (IV (k : Int)), some (IV (σ.2 2 (σ.2 4 k).toNat)), some (IV (σ.2 21 k)), some (IV 0), some (IV (σ.2 2 (σ.2 4 k).toNat)), none]) rfl ?_
                refine j_iload_n (pc := 112) dX1_nearest_112 rfl ?_
                refine j_iconst (pc := 113) dX1_nearest_113 rfl ?_
                refine j_icmp_ne (pc := 114) (tgt := 121) dX1_nearest_114 (by decide) (by omega) (by decide) (fun c_114_1 => ?_) (fun c_114_1 => ?_)
                · refine j_iload_n (pc := 121) dX1_nearest_121 rfl ?_
                  refine j_if_eq (pc := 122) (tgt := 149) dX1_nearest_122 (by decide) (by decide) (fun c_122_1 => ?_) (fun c_122_1 => ?_)
                  · exact absurd c_122_1 (by decide)
                  · refine j_aload_n (pc := 125) dX1_nearest_125 rfl ?_
                    refine j2_get fa_X1_27_X1 (show h (o) = some (pO 0 [.ref (ad 1 0 0), .ref (ad 2 0 0), .ref (ad 3 0 0), .ref (ad 4 0 0), .ref (ad 12 0 0), IV (σ.1 0), .ref (ad 5 0 0), .ref (ad 6 0 0)]) from hR.top1 hz) rfl dX1_nearest_126 ?_
                    refine j_aload_n (pc := 129) dX1_nearest_129 rfl ?_
                    refine j2_get fa_X1_20_X1 (show h (o) = some (pO 0 [.ref (ad 1 0 0), .ref (ad 2 0 0), .ref (ad 3 0 0), .ref (ad 4 0 0), .ref (ad 12 0 0), IV (σ.1 0), .ref (ad 5 0 0), .ref (ad 6 0 0)]) from hR.top1 hz) rfl dX1_nearest_130 ?_
                    refine j_iload_n (pc := 133) dX1_nearest_133 rfl ?_
                    refine j_callF (pc := 134) (xm := ⟨"java/util/List", "get", "(I)Ljava/lang/Object;"⟩) (l2_get (show h (ad 3 0 0) = some (pL (rg (σ.1 6) (fun p => ad 8 p 0))) from hR.at 3 0 0 ⟨rfl, rfl⟩) (i := z) (v := ad 8 (z).toNat 0) (by omega) (rg_at (by omega) (by omega))) (lw_F q551 q185 q187 q47 q189) hfe.2.2.1 (ci := 2) rfl rfl mdx_yJ2_get (RC.ofL (show h (ad 3 0 0) = some (pL (rg (σ.1 6) (fun p => ad 8 p 0))) from hR.at 3 0 0 ⟨rfl, rfl⟩)) (by decide) (by decide) rfl (Nat.le_of_ble_eq_true rfl) dX1_nearest_134 (qR.k (fun r_134_1 s_134_1 q_134_1 => ?_))
                    obtain ⟨e1q_134_1, e2q_134_1⟩ := q_134_1
                    subst r_134_1
                    subst s_134_1
                    refine j2_castS (C := RX3) rfl q461 (show h (ad 8 (z).toNat 0) = some (pO 3 [IV (σ.2 4 (z).toNat), IV (σ.2 5 (z).toNat)]) from hR.at 8 (z).toNat 0 ⟨(by omega), rfl⟩) dX1_nearest_139 ?_
                    refine j2_get fa_X1_153_X3 (show h (ad 8 (z).toNat 0) = some (pO 3 [IV (σ.2 4 (z).toNat), IV (σ.2 5 (z).toNat)]) from hR.at 8 (z).toNat 0 ⟨(by omega), rfl⟩) rfl dX1_nearest_142 ?_
                    have n_7 : 0 ≤ σ.2 4 (z).toNat ∧ σ.2 4 (z).toNat ≤ 35 := hB.2 4 ((z).toNat)
                    refine j2_iald (i := σ.2 4 (z).toNat) (show h (ad 5 0 0) = some (pA 0 36 (σ.2 2)) from hR.at 5 0 0 ⟨rfl, rfl⟩) (by show 0 ≤ σ.2 4 (z).toNat ∧ σ.2 4 (z).toNat < ((36 : Nat) : Int); omega) dX1_nearest_145 ?_
                    have n_8 : (-1) ≤ σ.2 2 (σ.2 4 (z).toNat).toNat ∧ σ.2 2 (σ.2 4 (z).toNat).toNat ≤ 36 := hB.2 2 ((σ.2 4 (z).toNat).toNat)
                    refine j_goto (pc := 146) (tgt := 168) dX1_nearest_146 (by decide) ?_
                    refine j_istore (pc := 168) dX1_nearest_168 (by decide) (lo' := [some (.ref o), some (IV 1), some (IV z), some (IV (k : Int)), some (IV (σ.2 2 (σ.2 4 k).toNat)), some (IV (σ.2 21 k)), some (IV 0), some (IV (σ.2 2 (σ.2 4 k).toNat)), some (IV (σ.2 2 (σ.2 4 (z).toNat).toNat))]) rfl ?_
                    refine j_iload (pc := 170) dX1_nearest_170 rfl ?_
                    refine j_if_eq (pc := 172) (tgt := 191) dX1_nearest_172 (by decide) (by decide) (fun c_172_1 => ?_) (fun c_172_1 => ?_)
                    · refine j_iload_n (pc := 191) dX1_nearest_191 rfl ?_
                      refine j_istore_n (pc := 192) dX1_nearest_192 (by decide) (lo' := [some (.ref o), some (IV 1), some (IV z), some (IV (k : Int)), some (IV (σ.2 2 (σ.2 4 k).toNat)), some (IV (σ.2 21 k)), some (IV 0), some (IV (σ.2 2 (σ.2 4 k).toNat)), some (IV (σ.2 2 (σ.2 4 (z).toNat).toNat))]) rfl ?_
                      refine j_iinc (pc := 193) dX1_nearest_193 rfl (by decide) (lo' := [some (.ref o), some (IV 1), some (IV z), some (IV ((k : Int) + 1)), some (IV (σ.2 2 (σ.2 4 k).toNat)), some (IV (σ.2 21 k)), some (IV 0), some (IV (σ.2 2 (σ.2 4 k).toNat)), some (IV (σ.2 2 (σ.2 4 (z).toNat).toNat))]) rfl ?_
                      refine j_goto (pc := 196) (tgt := 4) dX1_nearest_196 (by decide) ?_
                      refine j_sub (lo' := [some (.ref o), some (IV 1), some (IV z), some (IV ((k : Int) + 1)), none, none, none, none, none]) ⟨Or.inr rfl, Or.inr rfl, Or.inr rfl, Or.inr rfl, Or.inl rfl, Or.inl rfl, Or.inl rfl, Or.inl rfl, Or.inl rfl, trivial⟩ ?_
                      exact ih_4 (k + 1) z (by omega) (by omega) (by subst hz9; simp only [sBest1]; split <;> first | rfl | omega)
                    · exact absurd c_172_1 (by decide)
                · refine j_iconst (pc := 117) dX1_nearest_117 rfl ?_
                  refine j_goto (pc := 118) (tgt := 168) dX1_nearest_118 (by decide) ?_
                  refine j_istore (pc := 168) dX1_nearest_168 (by decide) (lo' := [some (.ref o), some (IV 1), some (IV z), some (IV (k : Int)), some (IV (σ.2 2 (σ.2 4 k).toNat)), some (IV (σ.2 21 k)), some (IV 0), some (IV (σ.2 2 (σ.2 4 k).toNat)), some (IV (-1))]) rfl ?_
                  refine j_iload (pc := 170) dX1_nearest_170 rfl ?_
                  refine j_if_eq (pc := 172) (tgt := 191) dX1_nearest_172 (by decide) (by decide) (fun c_172_1 => ?_) (fun c_172_1 => ?_)
                  · refine j_iload_n (pc := 191) dX1_nearest_191 rfl ?_
                    refine j_istore_n (pc := 192) dX1_nearest_192 (by decide) (lo' := [some (.ref o), some (IV 1), some (IV z), some (IV (k : Int)), some (IV (σ.2 2 (σ.2 4 k).toNat)), some (IV (σ.2 21 k)), some (IV 0), some (IV (σ.2 2 (σ.2 4 k).toNat)), some (IV (-1))]) rfl ?_
                    refine j_iinc (pc := 193) dX1_nearest_193 rfl (by decide) (lo' := [some (.ref o), some (IV 1), some (IV z), some (IV ((k : Int) + 1)), some (IV (σ.2 2 (σ.2 4 k).toNat)), some (IV (σ.2 21 k)), some (IV 0), some (IV (σ.2 2 (σ.2 4 k).toNat)), some (IV (-1))]) rfl ?_
                    refine j_goto (pc := 196) (tgt := 4) dX1_nearest_196 (by decide) ?_
                    refine j_sub (lo' := [some (.ref o), some (IV 1), some (IV z), some (IV ((k : Int) + 1)), none, none, none, none, none]) ⟨Or.inr rfl, Or.inr rfl, Or.inr rfl, Or.inr rfl, Or.inl rfl, Or.inl rfl, Or.inl rfl, Or.inl rfl, Or.inl rfl, trivial⟩ ?_
                    exact ih_4 (k + 1) z (by omega) (by omega) (by subst hz9; simp only [sBest1]; split <;> first | rfl | omega)
                  · exact absurd c_172_1 (by decide)
            · refine j_iconst (pc := 92) dX1_nearest_92 rfl ?_
              refine j_goto (pc := 93) (tgt := 97) dX1_nearest_93 (by decide) ?_
              refine j_istore (pc := 97) dX1_nearest_97 (by decide) (lo' := [some (.ref o), some (IV 1), some (IV z), some (IV (k : Int)), some (IV (σ.2 2 (σ.2 4 k).toNat)), some (IV (σ.2 21 k)), some (IV 1), none, none]) rfl ?_
              refine j_iload_n (pc := 99) dX1_nearest_99 rfl ?_
              refine j_if_eq (pc := 100) (tgt := 108) dX1_nearest_100 (by decide) (by decide) (fun c_100_1 => ?_) (fun c_100_1 => ?_)
              · exact absurd c_100_1 (by decide)
              · refine j_iload (pc := 103) dX1_nearest_103 rfl ?_
                refine j_goto (pc := 105) (tgt := 110) dX1_nearest_105 (by decide) ?_
                refine j_istore (pc := 110) dX1_nearest_110 (by decide) (lo' := [some (.ref o), some (IV 1), some (IV z), some (IV (k : Int)), some (IV (σ.2 2 (σ.2 4 k).toNat)), some (IV (σ.2 21 k)), some (IV 1), some (IV (σ.2 2 (σ.2 4 k).toNat)), none]) rfl ?_
                refine j_iload_n (pc := 112) dX1_nearest_112 rfl ?_
                refine j_iconst (pc := 113) dX1_nearest_113 rfl ?_
                refine j_icmp_ne (pc := 114) (tgt := 121) dX1_nearest_114 (by decide) (by omega) (by decide) (fun c_114_1 => ?_) (fun c_114_1 => ?_)
                · refine j_iload_n (pc := 121) dX1_nearest_121 rfl ?_
                  refine j_if_eq (pc := 122) (tgt := 149) dX1_nearest_122 (by decide) (by decide) (fun c_122_1 => ?_) (fun c_122_1 => ?_)
                  · exact absurd c_122_1 (by decide)
                  · refine j_aload_n (pc := 125) dX1_nearest_125 rfl ?_
                    refine j2_get fa_X1_27_X1 (show h (o) = some (pO 0 [.ref (ad 1 0 0), .ref (ad 2 0 0), .ref (ad 3 0 0), .ref (ad 4 0 0), .ref (ad 12 0 0), IV (σ.1 0), .ref (ad 5 0 0), .ref (ad 6 0 0)]) from hR.top1 hz) rfl dX1_nearest_126 ?_
                    refine j_aload_n (pc := 129) dX1_nearest_129 rfl ?_
                    refine j2_get fa_X1_20_X1 (show h (o) = some (pO 0 [.ref (ad 1 0 0), .ref (ad 2 0 0), .ref (ad 3 0 0), .ref (ad 4 0 0), .ref (ad 12 0 0), IV (σ.1 0), .ref (ad 5 0 0), .ref (ad 6 0 0)]) from hR.top1 hz) rfl dX1_nearest_130 ?_
                    refine j_iload_n (pc := 133) dX1_nearest_133 rfl ?_
                    refine j_callF (pc := 134) (xm := ⟨"java/util/List", "get", "(I)Ljava/lang/Object;"⟩) (l2_get (show h (ad 3 0 0) = some (pL (rg (σ.1 6) (fun p => ad 8 p 0))) from hR.at 3 0 0 ⟨rfl, rfl⟩) (i := z) (v := ad 8 (z).toNat 0) (by omega) (rg_at (by omega) (by omega))) (lw_F q551 q185 q187 q47 q189) hfe.2.2.1 (ci := 2) rfl rfl mdx_yJ2_get (RC.ofL (show h (ad 3 0 0) = some (pL (rg (σ.1 6) (fun p => ad 8 p 0))) from hR.at 3 0 0 ⟨rfl, rfl⟩)) (by decide) (by decide) rfl (Nat.le_of_ble_eq_true rfl) dX1_nearest_134 (qR.k (fun r_134_1 s_134_1 q_134_1 => ?_))
                    obtain ⟨e1q_134_1, e2q_134_1⟩ := q_134_1
                    subst r_134_1
                    subst s_134_1
                    refine j2_castS (C := RX3) rfl q461 (show h (ad 8 (z).toNat 0) = some (pO 3 [IV (σ.2 4 (z).toNat), IV (σ.2 5 (z).toNat)]) from hR.at 8 (z).toNat 0 ⟨(by omega), rfl⟩) dX1_nearest_139 ?_
                    refine j2_get fa_X1_153_X3 (show h (ad 8 (z).toNat 0) = some (pO 3 [IV (σ.2 4 (z).toNat), IV (σ.2 5 (z).toNat)]) from hR.at 8 (z).toNat 0 ⟨(by omega), rfl⟩) rfl dX1_nearest_142 ?_
                    have n_9 : 0 ≤ σ.2 4 (z).toNat ∧ σ.2 4 (z).toNat ≤ 35 := hB.2 4 ((z).toNat)
                    refine j2_iald (i := σ.2 4 (z).toNat) (show h (ad 5 0 0) = some (pA 0 36 (σ.2 2)) from hR.at 5 0 0 ⟨rfl, rfl⟩) (by show 0 ≤ σ.2 4 (z).toNat ∧ σ.2 4 (z).toNat < ((36 : Nat) : Int); omega) dX1_nearest_145 ?_
                    have n_10 : (-1) ≤ σ.2 2 (σ.2 4 (z).toNat).toNat ∧ σ.2 2 (σ.2 4 (z).toNat).toNat ≤ 36 := hB.2 2 ((σ.2 4 (z).toNat).toNat)
                    refine j_goto (pc := 146) (tgt := 168) dX1_nearest_146 (by decide) ?_
                    refine j_istore (pc := 168) dX1_nearest_168 (by decide) (lo' := [some (.ref o), some (IV 1), some (IV z), some (IV (k : Int)), some (IV (σ.2 2 (σ.2 4 k).toNat)), some (IV (σ.2 21 k)), some (IV 1), some (IV (σ.2 2 (σ.2 4 k).toNat)), some (IV (σ.2 2 (σ.2 4 (z).toNat).toNat))]) rfl ?_
                    refine j_iload (pc := 170) dX1_nearest_170 rfl ?_
                    refine j_if_eq (pc := 172) (tgt := 191) dX1_nearest_172 (by decide) (by decide) (fun c_172_1 => ?_) (fun c_172_1 => ?_)
                    · exact absurd c_172_1 (by decide)
                    · refine j_iload_n (pc := 175) dX1_nearest_175 rfl ?_
                      refine j_iconst (pc := 176) dX1_nearest_176 rfl ?_
                      refine j_icmp_eq (pc := 177) (tgt := 187) dX1_nearest_177 (by decide) (by omega) (by decide) (fun c_177 => ?_) (fun c_177 => ?_)
                      · refine j_iload_n (pc := 187) dX1_nearest_187 rfl ?_
                        refine j_goto (pc := 188) (tgt := 192) dX1_nearest_188 (by decide) ?_
                        refine j_istore_n (pc := 192) dX1_nearest_192 (by decide) (lo' := [some (.ref o), some (IV 1), some (IV (k : Int)), some (IV (k : Int)), some (IV (σ.2 2 (σ.2 4 k).toNat)), some (IV (σ.2 21 k)), some (IV 1), some (IV (σ.2 2 (σ.2 4 k).toNat)), some (IV (σ.2 2 (σ.2 4 (z).toNat).toNat))]) rfl ?_
                        refine j_iinc (pc := 193) dX1_nearest_193 rfl (by decide) (lo' := [some (.ref o), some (IV 1), some (IV (k : Int)), some (IV ((k : Int) + 1)), some (IV (σ.2 2 (σ.2 4 k).toNat)), some (IV (σ.2 21 k)), some (IV 1), some (IV (σ.2 2 (σ.2 4 k).toNat)), some (IV (σ.2 2 (σ.2 4 (z).toNat).toNat))]) rfl ?_
                        refine j_goto (pc := 196) (tgt := 4) dX1_nearest_196 (by decide) ?_
                        refine j_sub (lo' := [some (.ref o), some (IV 1), some (IV (k : Int)), some (IV ((k : Int) + 1)), none, none, none, none, none]) ⟨Or.inr rfl, Or.inr rfl, Or.inr rfl, Or.inr rfl, Or.inl rfl, Or.inl rfl, Or.inl rfl, Or.inl rfl, Or.inl rfl, trivial⟩ ?_
                        exact ih_4 (k + 1) (k : Int) (by omega) (by omega) (by subst hz9; simp only [sBest1]; split <;> first | rfl | omega)
                      · refine j_iload (pc := 180) dX1_nearest_180 rfl ?_
                        refine j_iload (pc := 182) dX1_nearest_182 rfl ?_
                        refine j_icmp_ge (pc := 184) (tgt := 191) dX1_nearest_184 (by decide) (by omega) (by omega) (fun c_184 => ?_) (fun c_184 => ?_)
                        · refine j_iload_n (pc := 191) dX1_nearest_191 rfl ?_
                          refine j_istore_n (pc := 192) dX1_nearest_192 (by decide) (lo' := [some (.ref o), some (IV 1), some (IV z), some (IV (k : Int)), some (IV (σ.2 2 (σ.2 4 k).toNat)), some (IV (σ.2 21 k)), some (IV 1), some (IV (σ.2 2 (σ.2 4 k).toNat)), some (IV (σ.2 2 (σ.2 4 (z).toNat).toNat))]) rfl ?_
                          refine j_iinc (pc := 193) dX1_nearest_193 rfl (by decide) (lo' := [some (.ref o), some (IV 1), some (IV z), some (IV ((k : Int) + 1)), some (IV (σ.2 2 (σ.2 4 k).toNat)), some (IV (σ.2 21 k)), some (IV 1), some (IV (σ.2 2 (σ.2 4 k).toNat)), some (IV (σ.2 2 (σ.2 4 (z).toNat).toNat))]) rfl ?_
                          refine j_goto (pc := 196) (tgt := 4) dX1_nearest_196 (by decide) ?_
                          refine j_sub (lo' := [some (.ref o), some (IV 1), some (IV z), some (IV ((k : Int) + 1)), none, none, none, none, none]) ⟨Or.inr rfl, Or.inr rfl, Or.inr rfl, Or.inr rfl, Or.inl rfl, Or.inl rfl, Or.inl rfl, Or.inl rfl, Or.inl rfl, trivial⟩ ?_
                          exact ih_4 (k + 1) z (by omega) (by omega) (by subst hz9; simp only [sBest1]; split <;> first | rfl | omega)
                        · refine j_iload_n (pc := 187) dX1_nearest_187 rfl ?_
                          refine j_goto (pc := 188) (tgt := 192) dX1_nearest_188 (by decide) ?_
                          refine j_istore_n (pc := 192) dX1_nearest_192 (by decide) (lo' := [some (.ref o), some (IV 1), some (IV (k : Int)), some (IV (k : Int)), some (IV (σ.2 2 (σ.2 4 k).toNat)), some (IV (σ.2 21 k)), some (IV 1), some (IV (σ.2 2 (σ.2 4 k).toNat)), some (IV (σ.2 2 (σ.2 4 (z).toNat).toNat))]) rfl ?_
                          refine j_iinc (pc := 193) dX1_nearest_193 rfl (by decide) (lo' := [some (.ref o), some (IV 1), some (IV (k : Int)), some (IV ((k : Int) + 1)), some (IV (σ.2 2 (σ.2 4 k).toNat)), some (IV (σ.2 21 k)), some (IV 1), some (IV (σ.2 2 (σ.2 4 k).toNat)), some (IV (σ.2 2 (σ.2 4 (z).toNat).toNat))]) rfl ?_
                          refine j_goto (pc := 196) (tgt := 4) dX1_nearest_196 (by decide) ?_
                          refine j_sub (lo' := [some (.ref o), some (IV 1), some (IV (k : Int)), some (IV ((k : Int) + 1)), none, none, none, none, none]) ⟨Or.inr rfl, Or.inr rfl, Or.inr rfl, Or.inr rfl, Or.inl rfl, Or.inl rfl, Or.inl rfl, Or.inl rfl, Or.inl rfl, trivial⟩ ?_
                          exact ih_4 (k + 1) (k : Int) (by omega) (by omega) (by subst hz9; simp only [sBest1]; split <;> first | rfl | omega)
                · refine j_iconst (pc := 117) dX1_nearest_117 rfl ?_
                  refine j_goto (pc := 118) (tgt := 168) dX1_nearest_118 (by decide) ?_
                  refine j_istore (pc := 168) dX1_nearest_168 (by decide) (lo' := [some (.ref o), some (IV 1), some (IV z), some (IV (k : Int)), some (IV (σ.2 2 (σ.2 4 k).toNat)), some (IV (σ.2 21 k)), some (IV 1), some (IV (σ.2 2 (σ.2 4 k).toNat)), some (IV (-1))]) rfl ?_
                  refine j_iload (pc := 170) dX1_nearest_170 rfl ?_
                  refine j_if_eq (pc := 172) (tgt := 191) dX1_nearest_172 (by decide) (by decide) (fun c_172_1 => ?_) (fun c_172_1 => ?_)
                  · exact absurd c_172_1 (by decide)
                  · refine j_iload_n (pc := 175) dX1_nearest_175 rfl ?_
                    refine j_iconst (pc := 176) dX1_nearest_176 rfl ?_
                    refine j_icmp_eq (pc := 177) (tgt := 187) dX1_nearest_177 (by decide) (by omega) (by decide) (fun c_177_1 => ?_) (fun c_177_1 => ?_)
                    · refine j_iload_n (pc := 187) dX1_nearest_187 rfl ?_
                      refine j_goto (pc := 188) (tgt := 192) dX1_nearest_188 (by decide) ?_
                      refine j_istore_n (pc := 192) dX1_nearest_192 (by decide) (lo' := [some (.ref o), some (IV 1), some (IV (k : Int)), some (IV (k : Int)), some (IV (σ.2 2 (σ.2 4 k).toNat)), some (IV (σ.2 21 k)), some (IV 1), some (IV (σ.2 2 (σ.2 4 k).toNat)), some (IV (-1))]) rfl ?_
                      refine j_iinc (pc := 193) dX1_nearest_193 rfl (by decide) (lo' := [some (.ref o), some (IV 1), some (IV (k : Int)), some (IV ((k : Int) + 1)), some (IV (σ.2 2 (σ.2 4 k).toNat)), some (IV (σ.2 21 k)), some (IV 1), some (IV (σ.2 2 (σ.2 4 k).toNat)), some (IV (-1))]) rfl ?_
                      refine j_goto (pc := 196) (tgt := 4) dX1_nearest_196 (by decide) ?_
                      refine j_sub (lo' := [some (.ref o), some (IV 1), some (IV (k : Int)), some (IV ((k : Int) + 1)), none, none, none, none, none]) ⟨Or.inr rfl, Or.inr rfl, Or.inr rfl, Or.inr rfl, Or.inl rfl, Or.inl rfl, Or.inl rfl, Or.inl rfl, Or.inl rfl, trivial⟩ ?_
                      exact ih_4 (k + 1) (k : Int) (by omega) (by omega) (by subst hz9; simp only [sBest1]; split <;> first | rfl | omega)
                    · refine j_iload (pc := 180) dX1_nearest_180 rfl ?_
                      refine j_iload (pc := 182) dX1_nearest_182 rfl ?_
                      refine j_icmp_ge (pc := 184) (tgt := 191) dX1_nearest_184 (by decide) (by omega) (by decide) (fun c_184_1 => ?_) (fun c_184_1 => ?_)
                      · refine j_iload_n (pc := 191) dX1_nearest_191 rfl ?_
                        refine j_istore_n (pc := 192) dX1_nearest_192 (by decide) (lo' := [some (.ref o), some (IV 1), some (IV z), some (IV (k : Int)), some (IV (σ.2 2 (σ.2 4 k).toNat)), some (IV (σ.2 21 k)), some (IV 1), some (IV (σ.2 2 (σ.2 4 k).toNat)), some (IV (-1))]) rfl ?_
                        refine j_iinc (pc := 193) dX1_nearest_193 rfl (by decide) (lo' := [some (.ref o), some (IV 1), some (IV z), some (IV ((k : Int) + 1)), some (IV (σ.2 2 (σ.2 4 k).toNat)), some (IV (σ.2 21 k)), some (IV 1), some (IV (σ.2 2 (σ.2 4 k).toNat)), some (IV (-1))]) rfl ?_
                        refine j_goto (pc := 196) (tgt := 4) dX1_nearest_196 (by decide) ?_
                        refine j_sub (lo' := [some (.ref o), some (IV 1), some (IV z), some (IV ((k : Int) + 1)), none, none, none, none, none]) ⟨Or.inr rfl, Or.inr rfl, Or.inr rfl, Or.inr rfl, Or.inl rfl, Or.inl rfl, Or.inl rfl, Or.inl rfl, Or.inl rfl, trivial⟩ ?_
                        exact ih_4 (k + 1) z (by omega) (by omega) (by subst hz9; simp only [sBest1]; split <;> first | rfl | omega)
                      · refine j_iload_n (pc := 187) dX1_nearest_187 rfl ?_
                        refine j_goto (pc := 188) (tgt := 192) dX1_nearest_188 (by decide) ?_
                        refine j_istore_n (pc := 192) dX1_nearest_192 (by decide) (lo' := [some (.ref o), some (IV 1), some (IV (k : Int)), some (IV (k : Int)), some (IV (σ.2 2 (σ.2 4 k).toNat)), some (IV (σ.2 21 k)), some (IV 1), some (IV (σ.2 2 (σ.2 4 k).toNat)), some (IV (-1))]) rfl ?_
                        refine j_iinc (pc := 193) dX1_nearest_193 rfl (by decide) (lo' := [some (.ref o), some (IV 1), some (IV (k : Int)), some (IV ((k : Int) + 1)), some (IV (σ.2 2 (σ.2 4 k).toNat)), some (IV (σ.2 21 k)), some (IV 1), some (IV (σ.2 2 (σ.2 4 k).toNat)), some (IV (-1))]) rfl ?_
                        refine j_goto (pc := 196) (tgt := 4) dX1_nearest_196 (by decide) ?_
                        refine j_sub (lo' := [some (.ref o), some (IV 1), some (IV (k : Int)), some (IV ((k : Int) + 1)), none, none, none, none, none]) ⟨Or.inr rfl, Or.inr rfl, Or.inr rfl, Or.inr rfl, Or.inl rfl, Or.inl rfl, Or.inl rfl, Or.inl rfl, Or.inl rfl, trivial⟩ ?_
                        exact ih_4 (k + 1) (k : Int) (by omega) (by omega) (by subst hz9; simp only [sBest1]; split <;> first | rfl | omega)
  exact hl_4 _ 0 (-1) (Nat.lt_succ_self _) (by omega) rfl

set_option maxHeartbeats 4000000 in
theorem c_near0 {Γ : GG} {A : Nat → Prop} {K : KK} {l : Launch} (h : AL2) (hfe : FE Γ) (o : Nat) (ad : AD) (σ : MM) (hR : Rel K h o ad σ) (hB : Bd σ) (hz : σ.1 14 ≠ 0) (h69 : σ.1 19 = σ.1 6) : Ct Γ A (Rep2 Γ A K) l yX1_nearest (ws_ yX1_nearest cX1_nearest 9 (some .int)) 4 0 0 [.ref o, IV 0] h (qI (fun (r : Int) (h' : AL2) => r = sBest2 σ (σ.1 19).toNat ∧ h' = h)) X0 := by
  refine Ct.ofJ (own := RX1) (nm := "nearest") (lo := [some (.ref o), some (IV 0), none, none, none, none, none, none, none]) pn_X1 rfl rfl (List.forall_mem_cons.mpr ⟨rfl, (List.forall_mem_cons.mpr ⟨rfl, (fun _ h => nomatch h)⟩)⟩) (Nat.le_of_ble_eq_true rfl) rfl ?_
  have hQ : ∀ (r : Int) (h' : AL2), (r = sBest2 σ (σ.1 19).toNat ∧ h' = h) → (qI (fun (r : Int) (h' : AL2) => r = sBest2 σ (σ.1 19).toNat ∧ h' = h)) (some (IV r)) h' := fun r h' h => ⟨r, rfl, h⟩
  generalize (qI (fun (r : Int) (h' : AL2) => r = sBest2 σ (σ.1 19).toNat ∧ h' = h)) = QP at hQ ⊢
  have n6 : 0 ≤ σ.1 6 ∧ σ.1 6 ≤ 5 := hB.1 6
  have n19 : 0 ≤ σ.1 19 ∧ σ.1 19 ≤ 5 := hB.1 19
  refine j_iconst (pc := 0) dX1_nearest_0 rfl ?_
  refine j_istore_n (pc := 1) dX1_nearest_1 (by decide) (lo' := [some (.ref o), some (IV 0), some (IV (-1)), none, none, none, none, none, none]) rfl ?_
  refine j_iconst (pc := 2) dX1_nearest_2 rfl ?_
  refine j_istore_n (pc := 3) dX1_nearest_3 (by decide) (lo' := [some (.ref o), some (IV 0), some (IV (-1)), some (IV 0), none, none, none, none, none]) rfl ?_
  have hl_4 : ∀ (fu : Nat) (k : Nat) (z : Int), (σ.1 19).toNat - k < fu → (k : Int) ≤ σ.1 19 → z = sBest2 σ k → J Γ A (Rep2 Γ A K) l RX1 "nearest" cX1_nearest 9 (some .int) [] 4 0 0 QP X0 0 0 h 4 [some (.ref o), some (IV 0), some (IV z), some (IV (k : Int)), none, none, none, none, none] [] := by
    intro fu
    induction fu with
    | zero => intro k z hm; exact absurd hm (Nat.not_lt_zero _)
    | succ fu ih_4 =>
      intro k z hm hk hz9
      have hr9 := sBest2_rng σ k
      rw [← hz9] at hr9
      refine j_iload_n (pc := 4) dX1_nearest_4 rfl ?_
      refine j_aload_n (pc := 5) dX1_nearest_5 rfl ?_
      refine j2_get fa_X1_20_X1 (show h (o) = some (pO 0 [.ref (ad 1 0 0), .ref (ad 2 0 0), .ref (ad 3 0 0), .ref (ad 4 0 0), .ref (ad 12 0 0), IV (σ.1 0), .ref (ad 5 0 0), .ref (ad 6 0 0)]) from hR.top1 hz) rfl dX1_nearest_6 ?_
      refine j_callF (pc := 9) (xm := ⟨"java/util/List", "size", "()I"⟩) (l2_size (show h (ad 3 0 0) = some (pL (rg (σ.1 6) (fun p => ad 8 p 0))) from hR.at 3 0 0 ⟨rfl, rfl⟩)) (lw_F q155 q159 q161 q47 q163) hfe.1 (ci := 2) rfl rfl mdx_yJ2_size (RC.ofL (show h (ad 3 0 0) = some (pL (rg (σ.1 6) (fun p => ad 8 p 0))) from hR.at 3 0 0 ⟨rfl, rfl⟩)) (by decide) (by decide) rfl (Nat.le_of_ble_eq_true rfl) dX1_nearest_9 (qI.k (fun r_9 s_9 q_9 => ?_))
      obtain ⟨e1q_9, e2q_9⟩ := q_9
      subst s_9
      rw [rg_len (by omega)] at e1q_9
      subst r_9
      refine j_icmp_ge (pc := 14) (tgt := 199) dX1_nearest_14 (by decide) (by omega) (by omega) (fun c_14 => ?_) (fun c_14 => ?_)
      · refine j_iload_n (pc := 199) dX1_nearest_199 rfl ?_
        refine j_iret (pc := 200) rfl (hQ _ _ ?_) dX1_nearest_200
        exact ⟨by rw [hz9, show k = (σ.1 19).toNat by omega], rfl⟩
      · refine j_aload_n (pc := 17) dX1_nearest_17 rfl ?_
        refine j2_get fa_X1_27_X1 (show h (o) = some (pO 0 [.ref (ad 1 0 0), .ref (ad 2 0 0), .ref (ad 3 0 0), .ref (ad 4 0 0), .ref (ad 12 0 0), IV (σ.1 0), .ref (ad 5 0 0), .ref (ad 6 0 0)]) from hR.top1 hz) rfl dX1_nearest_18 ?_
        refine j_aload_n (pc := 21) dX1_nearest_21 rfl ?_
        refine j2_get fa_X1_20_X1 (show h (o) = some (pO 0 [.ref (ad 1 0 0), .ref (ad 2 0 0), .ref (ad 3 0 0), .ref (ad 4 0 0), .ref (ad 12 0 0), IV (σ.1 0), .ref (ad 5 0 0), .ref (ad 6 0 0)]) from hR.top1 hz) rfl dX1_nearest_22 ?_
        refine j_iload_n (pc := 25) dX1_nearest_25 rfl ?_
        refine j_callF (pc := 26) (xm := ⟨"java/util/List", "get", "(I)Ljava/lang/Object;"⟩) (l2_get (show h (ad 3 0 0) = some (pL (rg (σ.1 6) (fun p => ad 8 p 0))) from hR.at 3 0 0 ⟨rfl, rfl⟩) (i := (k : Int)) (v := ad 8 k 0) (by omega) (rg_at (by omega) (by omega))) (lw_F q551 q185 q187 q47 q189) hfe.2.2.1 (ci := 2) rfl rfl mdx_yJ2_get (RC.ofL (show h (ad 3 0 0) = some (pL (rg (σ.1 6) (fun p => ad 8 p 0))) from hR.at 3 0 0 ⟨rfl, rfl⟩)) (by decide) (by decide) rfl (Nat.le_of_ble_eq_true rfl) dX1_nearest_26 (qR.k (fun r_26 s_26 q_26 => ?_))
        obtain ⟨e1q_26, e2q_26⟩ := q_26
        subst r_26
        subst s_26
        refine j2_castS (C := RX3) rfl q461 (show h (ad 8 k 0) = some (pO 3 [IV (σ.2 4 k), IV (σ.2 5 k)]) from hR.at 8 k 0 ⟨(by omega), rfl⟩) dX1_nearest_31 ?_
        refine j2_get fa_X1_153_X3 (show h (ad 8 k 0) = some (pO 3 [IV (σ.2 4 k), IV (σ.2 5 k)]) from hR.at 8 k 0 ⟨(by omega), rfl⟩) rfl dX1_nearest_34 ?_
        have n_1 : 0 ≤ σ.2 4 k ∧ σ.2 4 k ≤ 35 := hB.2 4 k
        refine j2_iald (i := σ.2 4 k) (show h (ad 5 0 0) = some (pA 0 36 (σ.2 2)) from hR.at 5 0 0 ⟨rfl, rfl⟩) (by show 0 ≤ σ.2 4 k ∧ σ.2 4 k < ((36 : Nat) : Int); omega) dX1_nearest_37 ?_
        have n_2 : (-1) ≤ σ.2 2 (σ.2 4 k).toNat ∧ σ.2 2 (σ.2 4 k).toNat ≤ 36 := hB.2 2 ((σ.2 4 k).toNat)
        refine j_istore (pc := 38) dX1_nearest_38 (by decide) (lo' := [some (.ref o), some (IV 0), some (IV z), some (IV (k : Int)), some (IV (σ.2 2 (σ.2 4 k).toNat)), none, none, none, none]) rfl ?_
        refine j_aload_n (pc := 40) dX1_nearest_40 rfl ?_
        refine j2_get fa_X1_58_X1 (show h (o) = some (pO 0 [.ref (ad 1 0 0), .ref (ad 2 0 0), .ref (ad 3 0 0), .ref (ad 4 0 0), .ref (ad 12 0 0), IV (σ.1 0), .ref (ad 5 0 0), .ref (ad 6 0 0)]) from hR.top1 hz) rfl dX1_nearest_41 ?_
        refine j2_get fa_X1_62_X9 (show h (ad 12 0 0) = some (pO 7 [IV (σ.1 15), IV (σ.1 16), IV (σ.1 17), .ref (ad 13 0 0), .ref (ad 14 0 0), .ref (ad 15 0 0), .ref (ad 16 0 0), .ref (ad 17 0 0), .ref (ad 18 0 0), IV (σ.1 14)]) from hR.at 12 0 0 ⟨hz, rfl, rfl⟩) rfl dX1_nearest_44 ?_
        refine j_iload_n (pc := 47) dX1_nearest_47 rfl ?_
        refine j_callF (pc := 48) (xm := ⟨"java/util/List", "get", "(I)Ljava/lang/Object;"⟩) (l2_get (show h (ad 16 0 0) = some (pL (rg (σ.1 19) (fun q => ad 19 q 0))) from hR.at 16 0 0 ⟨hz, rfl, rfl⟩) (i := (k : Int)) (v := ad 19 k 0) (by omega) (rg_at (by omega) (by omega))) (lw_F q551 q185 q187 q47 q189) hfe.2.2.1 (ci := 2) rfl rfl mdx_yJ2_get (RC.ofL (show h (ad 16 0 0) = some (pL (rg (σ.1 19) (fun q => ad 19 q 0))) from hR.at 16 0 0 ⟨hz, rfl, rfl⟩)) (by decide) (by decide) rfl (Nat.le_of_ble_eq_true rfl) dX1_nearest_48 (qR.k (fun r_48 s_48 q_48 => ?_))
        obtain ⟨e1q_48, e2q_48⟩ := q_48
        subst r_48
        subst s_48
        refine j2_castS (C := RX10) rfl q777 (show h (ad 19 k 0) = some (pO 8 [.ref (ad 20 k 0), .ref (ad 21 k 0), va_rf (if σ.2 32 k = -1 then none else some (ad 24 k 0)), IV (σ.2 21 k)]) from hR.at 19 k 0 ⟨hz, (by omega), rfl⟩) dX1_nearest_53 ?_
        refine j2_get fa_X1_156_X10 (show h (ad 19 k 0) = some (pO 8 [.ref (ad 20 k 0), .ref (ad 21 k 0), va_rf (if σ.2 32 k = -1 then none else some (ad 24 k 0)), IV (σ.2 21 k)]) from hR.at 19 k 0 ⟨hz, (by omega), rfl⟩) rfl dX1_nearest_56 ?_
        have n_3 : 0 ≤ σ.2 21 k ∧ σ.2 21 k ≤ 20 := hB.2 21 k
        refine j_istore (pc := 59) dX1_nearest_59 (by decide) (lo' := [some (.ref o), some (IV 0), some (IV z), some (IV (k : Int)), some (IV (σ.2 2 (σ.2 4 k).toNat)), some (IV (σ.2 21 k)), none, none, none]) rfl ?_
        refine j_iload (pc := 61) dX1_nearest_61 rfl ?_
        refine j_iconst (pc := 63) dX1_nearest_63 rfl ?_
        refine j_icmp_eq (pc := 64) (tgt := 96) dX1_nearest_64 (by decide) (by omega) (by decide) (fun c_64 => ?_) (fun c_64 => ?_)
        · refine j_iconst (pc := 96) dX1_nearest_96 rfl ?_
          refine j_istore (pc := 97) dX1_nearest_97 (by decide) (lo' := [some (.ref o), some (IV 0), some (IV z), some (IV (k : Int)), some (IV (σ.2 2 (σ.2 4 k).toNat)), some (IV (σ.2 21 k)), some (IV 0), none, none]) rfl ?_
          refine j_iload_n (pc := 99) dX1_nearest_99 rfl ?_
          refine j_if_eq (pc := 100) (tgt := 108) dX1_nearest_100 (by decide) (by decide) (fun c_100 => ?_) (fun c_100 => ?_)
          · refine j_iload (pc := 108) dX1_nearest_108 rfl ?_
            refine j_istore (pc := 110) dX1_nearest_110 (by decide) (lo' := [some (.ref o), some (IV 0), some (IV z), some (IV (k : Int)), some (IV (σ.2 2 (σ.2 4 k).toNat)), some (IV (σ.2 21 k)), some (IV 0), some (IV (σ.2 21 k)), none]) rfl ?_
            refine j_iload_n (pc := 112) dX1_nearest_112 rfl ?_
            refine j_iconst (pc := 113) dX1_nearest_113 rfl ?_
            refine j_icmp_ne (pc := 114) (tgt := 121) dX1_nearest_114 (by decide) (by omega) (by decide) (fun c_114 => ?_) (fun c_114 => ?_)
            · refine j_iload_n (pc := 121) dX1_nearest_121 rfl ?_
              refine j_if_eq (pc := 122) (tgt := 149) dX1_nearest_122 (by decide) (by decide) (fun c_122 => ?_) (fun c_122 => ?_)
              · refine j_aload_n (pc := 149) dX1_nearest_149 rfl ?_
                refine j2_get fa_X1_58_X1 (show h (o) = some (pO 0 [.ref (ad 1 0 0), .ref (ad 2 0 0), .ref (ad 3 0 0), .ref (ad 4 0 0), .ref (ad 12 0 0), IV (σ.1 0), .ref (ad 5 0 0), .ref (ad 6 0 0)]) from hR.top1 hz) rfl dX1_nearest_150 ?_
                refine j2_get fa_X1_62_X9 (show h (ad 12 0 0) = some (pO 7 [IV (σ.1 15), IV (σ.1 16), IV (σ.1 17), .ref (ad 13 0 0), .ref (ad 14 0 0), .ref (ad 15 0 0), .ref (ad 16 0 0), .ref (ad 17 0 0), .ref (ad 18 0 0), IV (σ.1 14)]) from hR.at 12 0 0 ⟨hz, rfl, rfl⟩) rfl dX1_nearest_153 ?_
                refine j_iload_n (pc := 156) dX1_nearest_156 rfl ?_
                refine j_callF (pc := 157) (xm := ⟨"java/util/List", "get", "(I)Ljava/lang/Object;"⟩) (l2_get (show h (ad 16 0 0) = some (pL (rg (σ.1 19) (fun q => ad 19 q 0))) from hR.at 16 0 0 ⟨hz, rfl, rfl⟩) (i := z) (v := ad 19 (z).toNat 0) (by omega) (rg_at (by omega) (by omega))) (lw_F q551 q185 q187 q47 q189) hfe.2.2.1 (ci := 2) rfl rfl mdx_yJ2_get (RC.ofL (show h (ad 16 0 0) = some (pL (rg (σ.1 19) (fun q => ad 19 q 0))) from hR.at 16 0 0 ⟨hz, rfl, rfl⟩)) (by decide) (by decide) rfl (Nat.le_of_ble_eq_true rfl) dX1_nearest_157 (qR.k (fun r_157 s_157 q_157 => ?_))
                obtain ⟨e1q_157, e2q_157⟩ := q_157
                subst r_157
                subst s_157
                refine j2_castS (C := RX10) rfl q777 (show h (ad 19 (z).toNat 0) = some (pO 8 [.ref (ad 20 (z).toNat 0), .ref (ad 21 (z).toNat 0), va_rf (if σ.2 32 (z).toNat = -1 then none else some (ad 24 (z).toNat 0)), IV (σ.2 21 (z).toNat)]) from hR.at 19 (z).toNat 0 ⟨hz, (by omega), rfl⟩) dX1_nearest_162 ?_
                refine j2_get fa_X1_156_X10 (show h (ad 19 (z).toNat 0) = some (pO 8 [.ref (ad 20 (z).toNat 0), .ref (ad 21 (z).toNat 0), va_rf (if σ.2 32 (z).toNat = -1 then none else some (ad 24 (z).toNat 0)), IV (σ.2 21 (z).toNat)]) from hR.at 19 (z).toNat 0 ⟨hz, (by omega), rfl⟩) rfl dX1_nearest_165 ?_
                have n_4 : 0 ≤ σ.2 21 (z).toNat ∧ σ.2 21 (z).toNat ≤ 20 := hB.2 21 ((z).toNat)
                refine j_istore (pc := 168) dX1_nearest_168 (by decide) (lo' := [some (.ref o), some (IV 0), some (IV z), some (IV (k : Int)), some (IV (σ.2 2 (σ.2 4 k).toNat)), some (IV (σ.2 21 k)), some (IV 0), some (IV (σ.2 21 k)), some (IV (σ.2 21 (z).toNat))]) rfl ?_
                refine j_iload (pc := 170) dX1_nearest_170 rfl ?_
                refine j_if_eq (pc := 172) (tgt := 191) dX1_nearest_172 (by decide) (by decide) (fun c_172 => ?_) (fun c_172 => ?_)
                · refine j_iload_n (pc := 191) dX1_nearest_191 rfl ?_
                  refine j_istore_n (pc := 192) dX1_nearest_192 (by decide) (lo' := [some (.ref o), some (IV 0), some (IV z), some (IV (k : Int)), some (IV (σ.2 2 (σ.2 4 k).toNat)), some (IV (σ.2 21 k)), some (IV 0), some (IV (σ.2 21 k)), some (IV (σ.2 21 (z).toNat))]) rfl ?_
                  refine j_iinc (pc := 193) dX1_nearest_193 rfl (by decide) (lo' := [some (.ref o), some (IV 0), some (IV z), some (IV ((k : Int) + 1)), some (IV (σ.2 2 (σ.2 4 k).toNat)), some (IV (σ.2 21 k)), some (IV 0), some (IV (σ.2 21 k)), some (IV (σ.2 21 (z).toNat))]) rfl ?_
                  refine j_goto (pc := 196) (tgt := 4) dX1_nearest_196 (by decide) ?_
                  refine j_sub (lo' := [some (.ref o), some (IV 0), some (IV z), some (IV ((k : Int) + 1)), none, none, none, none, none]) ⟨Or.inr rfl, Or.inr rfl, Or.inr rfl, Or.inr rfl, Or.inl rfl, Or.inl rfl, Or.inl rfl, Or.inl rfl, Or.inl rfl, trivial⟩ ?_
                  exact ih_4 (k + 1) z (by omega) (by omega) (by subst hz9; simp only [sBest2]; split <;> first | rfl | omega)
                · exact absurd c_172 (by decide)
              · exact absurd c_122 (by decide)
            · refine j_iconst (pc := 117) dX1_nearest_117 rfl ?_
              refine j_goto (pc := 118) (tgt := 168) dX1_nearest_118 (by decide) ?_
              refine j_istore (pc := 168) dX1_nearest_168 (by decide) (lo' := [some (.ref o), some (IV 0), some (IV z), some (IV (k : Int)), some (IV (σ.2 2 (σ.2 4 k).toNat)), some (IV (σ.2 21 k)), some (IV 0), some (IV (σ.2 21 k)), some (IV (-1))]) rfl ?_
              refine j_iload (pc := 170) dX1_nearest_170 rfl ?_
              refine j_if_eq (pc := 172) (tgt := 191) dX1_nearest_172 (by decide) (by decide) (fun c_172_1 => ?_) (fun c_172_1 => ?_)
              · refine j_iload_n (pc := 191) dX1_nearest_191 rfl ?_
                refine j_istore_n (pc := 192) dX1_nearest_192 (by decide) (lo' := [some (.ref o), some (IV 0), some (IV z), some (IV (k : Int)), some (IV (σ.2 2 (σ.2 4 k).toNat)), some (IV (σ.2 21 k)), some (IV 0), some (IV (σ.2 21 k)), some (IV (-1))]) rfl ?_
                refine j_iinc (pc := 193) dX1_nearest_193 rfl (by decide) (lo' := [some (.ref o), some (IV 0), some (IV z), some (IV ((k : Int) + 1)), some (IV (σ.2 2 (σ.2 4 k).toNat)), some (IV (σ.2 21 k)), some (IV 0), some (IV (σ.2 21 k)), some (IV (-1))]) rfl ?_
                refine j_goto (pc := 196) (tgt := 4) dX1_nearest_196 (by decide) ?_
                refine j_sub (lo' := [some (.ref o), some (IV 0), some (IV z), some (IV ((k : Int) + 1)), none, none, none, none, none]) ⟨Or.inr rfl, Or.inr rfl, Or.inr rfl, Or.inr rfl, Or.inl rfl, Or.inl rfl, Or.inl rfl, Or.inl rfl, Or.inl rfl, trivial⟩ ?_
                exact ih_4 (k + 1) z (by omega) (by omega) (by subst hz9; simp only [sBest2]; split <;> first | rfl | omega)
              · exact absurd c_172_1 (by decide)
          · exact absurd c_100 (by decide)
        · refine j_iload_n (pc := 67) dX1_nearest_67 rfl ?_
          refine j_if_eq (pc := 68) (tgt := 92) dX1_nearest_68 (by decide) (by decide) (fun c_68 => ?_) (fun c_68 => ?_)
          · refine j_iconst (pc := 92) dX1_nearest_92 rfl ?_
            refine j_goto (pc := 93) (tgt := 97) dX1_nearest_93 (by decide) ?_
            refine j_istore (pc := 97) dX1_nearest_97 (by decide) (lo' := [some (.ref o), some (IV 0), some (IV z), some (IV (k : Int)), some (IV (σ.2 2 (σ.2 4 k).toNat)), some (IV (σ.2 21 k)), some (IV 1), none, none]) rfl ?_
            refine j_iload_n (pc := 99) dX1_nearest_99 rfl ?_
            refine j_if_eq (pc := 100) (tgt := 108) dX1_nearest_100 (by decide) (by decide) (fun c_100_1 => ?_) (fun c_100_1 => ?_)
            · refine j_iload (pc := 108) dX1_nearest_108 rfl ?_
              refine j_istore (pc := 110) dX1_nearest_110 (by decide) (lo' := [some (.ref o), some (IV 0), some (IV z), some (IV (k : Int)), some (IV (σ.2 2 (σ.2 4 k).toNat)), some (IV (σ.2 21 k)), some (IV 1), some (IV (σ.2 21 k)), none]) rfl ?_
              refine j_iload_n (pc := 112) dX1_nearest_112 rfl ?_
              refine j_iconst (pc := 113) dX1_nearest_113 rfl ?_
              refine j_icmp_ne (pc := 114) (tgt := 121) dX1_nearest_114 (by decide) (by omega) (by decide) (fun c_114_1 => ?_) (fun c_114_1 => ?_)
              · refine j_iload_n (pc := 121) dX1_nearest_121 rfl ?_
                refine j_if_eq (pc := 122) (tgt := 149) dX1_nearest_122 (by decide) (by decide) (fun c_122_1 => ?_) (fun c_122_1 => ?_)
                · refine j_aload_n (pc := 149) dX1_nearest_149 rfl ?_
                  refine j2_get fa_X1_58_X1 (show h (o) = some (pO 0 [.ref (ad 1 0 0), .ref (ad 2 0 0), .ref (ad 3 0 0), .ref (ad 4 0 0), .ref (ad 12 0 0), IV (σ.1 0), .ref (ad 5 0 0), .ref (ad 6 0 0)]) from hR.top1 hz) rfl dX1_nearest_150 ?_
                  refine j2_get fa_X1_62_X9 (show h (ad 12 0 0) = some (pO 7 [IV (σ.1 15), IV (σ.1 16), IV (σ.1 17), .ref (ad 13 0 0), .ref (ad 14 0 0), .ref (ad 15 0 0), .ref (ad 16 0 0), .ref (ad 17 0 0), .ref (ad 18 0 0), IV (σ.1 14)]) from hR.at 12 0 0 ⟨hz, rfl, rfl⟩) rfl dX1_nearest_153 ?_
                  refine j_iload_n (pc := 156) dX1_nearest_156 rfl ?_
                  refine j_callF (pc := 157) (xm := ⟨"java/util/List", "get", "(I)Ljava/lang/Object;"⟩) (l2_get (show h (ad 16 0 0) = some (pL (rg (σ.1 19) (fun q => ad 19 q 0))) from hR.at 16 0 0 ⟨hz, rfl, rfl⟩) (i := z) (v := ad 19 (z).toNat 0) (by omega) (rg_at (by omega) (by omega))) (lw_F q551 q185 q187 q47 q189) hfe.2.2.1 (ci := 2) rfl rfl mdx_yJ2_get (RC.ofL (show h (ad 16 0 0) = some (pL (rg (σ.1 19) (fun q => ad 19 q 0))) from hR.at 16 0 0 ⟨hz, rfl, rfl⟩)) (by decide) (by decide) rfl (Nat.le_of_ble_eq_true rfl) dX1_nearest_157 (qR.k (fun r_157_1 s_157_1 q_157_1 => ?_))
                  obtain ⟨e1q_157_1, e2q_157_1⟩ := q_157_1
                  subst r_157_1
                  subst s_157_1
                  refine j2_castS (C := RX10) rfl q777 (show h (ad 19 (z).toNat 0) = some (pO 8 [.ref (ad 20 (z).toNat 0), .ref (ad 21 (z).toNat 0), va_rf (if σ.2 32 (z).toNat = -1 then none else some (ad 24 (z).toNat 0)), IV (σ.2 21 (z).toNat)]) from hR.at 19 (z).toNat 0 ⟨hz, (by omega), rfl⟩) dX1_nearest_162 ?_
                  refine j2_get fa_X1_156_X10 (show h (ad 19 (z).toNat 0) = some (pO 8 [.ref (ad 20 (z).toNat 0), .ref (ad 21 (z).toNat 0), va_rf (if σ.2 32 (z).toNat = -1 then none else some (ad 24 (z).toNat 0)), IV (σ.2 21 (z).toNat)]) from hR.at 19 (z).toNat 0 ⟨hz, (by omega), rfl⟩) rfl dX1_nearest_165 ?_
                  have n_5 : 0 ≤ σ.2 21 (z).toNat ∧ σ.2 21 (z).toNat ≤ 20 := hB.2 21 ((z).toNat)
                  refine j_istore (pc := 168) dX1_nearest_168 (by decide) (lo' := [some (.ref o), some (IV 0), some (IV z), some (IV (k : Int)), some (IV (σ.2 2 (σ.2 4 k).toNat)), some (IV (σ.2 21 k)), some (IV 1), some (IV (σ.2 21 k)), some (IV (σ.2 21 (z).toNat))]) rfl ?_
                  refine j_iload (pc := 170) dX1_nearest_170 rfl ?_
                  refine j_if_eq (pc := 172) (tgt := 191) dX1_nearest_172 (by decide) (by decide) (fun c_172_1 => ?_) (fun c_172_1 => ?_)
                  · exact absurd c_172_1 (by decide)
                  · refine j_iload_n (pc := 175) dX1_nearest_175 rfl ?_
                    refine j_iconst (pc := 176) dX1_nearest_176 rfl ?_
                    refine j_icmp_eq (pc := 177) (tgt := 187) dX1_nearest_177 (by decide) (by omega) (by decide) (fun c_177 => ?_) (fun c_177 => ?_)
                    · refine j_iload_n (pc := 187) dX1_nearest_187 rfl ?_
                      refine j_goto (pc := 188) (tgt := 192) dX1_nearest_188 (by decide) ?_
                      refine j_istore_n (pc := 192) dX1_nearest_192 (by decide) (lo' := [some (.ref o), some (IV 0), some (IV (k : Int)), some (IV (k : Int)), some (IV (σ.2 2 (σ.2 4 k).toNat)), some (IV (σ.2 21 k)), some (IV 1), some (IV (σ.2 21 k)), some (IV (σ.2 21 (z).toNat))]) rfl ?_
                      refine j_iinc (pc := 193) dX1_nearest_193 rfl (by decide) (lo' := [some (.ref o), some (IV 0), some (IV (k : Int)), some (IV ((k : Int) + 1)), some (IV (σ.2 2 (σ.2 4 k).toNat)), some (IV (σ.2 21 k)), some (IV 1), some (IV (σ.2 21 k)), some (IV (σ.2 21 (z).toNat))]) rfl ?_
                      refine j_goto (pc := 196) (tgt := 4) dX1_nearest_196 (by decide) ?_
                      refine j_sub (lo' := [some (.ref o), some (IV 0), some (IV (k : Int)), some (IV ((k : Int) + 1)), none, none, none, none, none]) ⟨Or.inr rfl, Or.inr rfl, Or.inr rfl, Or.inr rfl, Or.inl rfl, Or.inl rfl, Or.inl rfl, Or.inl rfl, Or.inl rfl, trivial⟩ ?_
                      exact ih_4 (k + 1) (k : Int) (by omega) (by omega) (by subst hz9; simp only [sBest2]; split <;> first | rfl | omega)
                    · refine j_iload (pc := 180) dX1_nearest_180 rfl ?_
                      refine j_iload (pc := 182) dX1_nearest_182 rfl ?_
                      refine j_icmp_ge (pc := 184) (tgt := 191) dX1_nearest_184 (by decide) (by omega) (by omega) (fun c_184 => ?_) (fun c_184 => ?_)
                      · refine j_iload_n (pc := 191) dX1_nearest_191 rfl ?_
                        refine j_istore_n (pc := 192) dX1_nearest_192 (by decide) (lo' := [some (.ref o), some (IV 0), some (IV z), some (IV (k : Int)), some (IV (σ.2 2 (σ.2 4 k).toNat)), some (IV (σ.2 21 k)), some (IV 1), some (IV (σ.2 21 k)), some (IV (σ.2 21 (z).toNat))]) rfl ?_
                        refine j_iinc (pc := 193) dX1_nearest_193 rfl (by decide) (lo' := [some (.ref o), some (IV 0), some (IV z), some (IV ((k : Int) + 1)), some (IV (σ.2 2 (σ.2 4 k).toNat)), some (IV (σ.2 21 k)), some (IV 1), some (IV (σ.2 21 k)), some (IV (σ.2 21 (z).toNat))]) rfl ?_
                        refine j_goto (pc := 196) (tgt := 4) dX1_nearest_196 (by decide) ?_
                        refine j_sub (lo' := [some (.ref o), some (IV 0), some (IV z), some (IV ((k : Int) + 1)), none, none, none, none, none]) ⟨Or.inr rfl, Or.inr rfl, Or.inr rfl, Or.inr rfl, Or.inl rfl, Or.inl rfl, Or.inl rfl, Or.inl rfl, Or.inl rfl, trivial⟩ ?_
                        exact ih_4 (k + 1) z (by omega) (by omega) (by subst hz9; simp only [sBest2]; split <;> first | rfl | omega)
                      · refine j_iload_n (pc := 187) dX1_nearest_187 rfl ?_
                        refine j_goto (pc := 188) (tgt := 192) dX1_nearest_188 (by decide) ?_
                        refine j_istore_n (pc := 192) dX1_nearest_192 (by decide) (lo' := [some (.ref o), some (IV 0), some (IV (k : Int)), some (IV (k : Int)), some (IV (σ.2 2 (σ.2 4 k).toNat)), some (IV (σ.2 21 k)), some (IV 1), some (IV (σ.2 21 k)), some (IV (σ.2 21 (z).toNat))]) rfl ?_
                        refine j_iinc (pc := 193) dX1_nearest_193 rfl (by decide) (lo' := [some (.ref o), some (IV 0), some (IV (k : Int)), some (IV ((k : Int) + 1)), some (IV (σ.2 2 (σ.2 4 k).toNat)), some (IV (σ.2 21 k)), some (IV 1), some (IV (σ.2 21 k)), some (IV (σ.2 21 (z).toNat))]) rfl ?_
                        refine j_goto (pc := 196) (tgt := 4) dX1_nearest_196 (by decide) ?_
                        refine j_sub (lo' := [some (.ref o), some (IV 0), some (IV (k : Int)), some (IV ((k : Int) + 1)), none, none, none, none, none]) ⟨Or.inr rfl, Or.inr rfl, Or.inr rfl, Or.inr rfl, Or.inl rfl, Or.inl rfl, Or.inl rfl, Or.inl rfl, Or.inl rfl, trivial⟩ ?_
                        exact ih_4 (k + 1) (k : Int) (by omega) (by omega) (by subst hz9; simp only [sBest2]; split <;> first | rfl | omega)
                · exact absurd c_122_1 (by decide)
              · refine j_iconst (pc := 117) dX1_nearest_117 rfl ?_
                refine j_goto (pc := 118) (tgt := 168) dX1_nearest_118 (by decide) ?_
                refine j_istore (pc := 168) dX1_nearest_168 (by decide) (lo' := [some (.ref o), some (IV 0), some (IV z), some (IV (k : Int)), some (IV (σ.2 2 (σ.2 4 k).toNat)), some (IV (σ.2 21 k)), some (IV 1), some (IV (σ.2 21 k)), some (IV (-1))]) rfl ?_
                refine j_iload (pc := 170) dX1_nearest_170 rfl ?_
                refine j_if_eq (pc := 172) (tgt := 191) dX1_nearest_172 (by decide) (by decide) (fun c_172_1 => ?_) (fun c_172_1 => ?_)
                · exact absurd c_172_1 (by decide)
                · refine j_iload_n (pc := 175) dX1_nearest_175 rfl ?_
                  refine j_iconst (pc := 176) dX1_nearest_176 rfl ?_
                  refine j_icmp_eq (pc := 177) (tgt := 187) dX1_nearest_177 (by decide) (by omega) (by decide) (fun c_177_1 => ?_) (fun c_177_1 => ?_)
                  · refine j_iload_n (pc := 187) dX1_nearest_187 rfl ?_
                    refine j_goto (pc := 188) (tgt := 192) dX1_nearest_188 (by decide) ?_
                    refine j_istore_n (pc := 192) dX1_nearest_192 (by decide) (lo' := [some (.ref o), some (IV 0), some (IV (k : Int)), some (IV (k : Int)), some (IV (σ.2 2 (σ.2 4 k).toNat)), some (IV (σ.2 21 k)), some (IV 1), some (IV (σ.2 21 k)), some (IV (-1))]) rfl ?_
                    refine j_iinc (pc := 193) dX1_nearest_193 rfl (by decide) (lo' := [some (.ref o), some (IV 0), some (IV (k : Int)), some (IV ((k : Int) + 1)), some (IV (σ.2 2 (σ.2 4 k).toNat)), some (IV (σ.2 21 k)), some (IV 1), some (IV (σ.2 21 k)), some (IV (-1))]) rfl ?_
                    refine j_goto (pc := 196) (tgt := 4) dX1_nearest_196 (by decide) ?_
                    refine j_sub (lo' := [some (.ref o), some (IV 0), some (IV (k : Int)), some (IV ((k : Int) + 1)), none, none, none, none, none]) ⟨Or.inr rfl, Or.inr rfl, Or.inr rfl, Or.inr rfl, Or.inl rfl, Or.inl rfl, Or.inl rfl, Or.inl rfl, Or.inl rfl, trivial⟩ ?_
                    exact ih_4 (k + 1) (k : Int) (by omega) (by omega) (by subst hz9; simp only [sBest2]; split <;> first | rfl | omega)
                  · refine j_iload (pc := 180) dX1_nearest_180 rfl ?_
                    refine j_iload (pc := 182) dX1_nearest_182 rfl ?_
                    refine j_icmp_ge (pc := 184) (tgt := 191) dX1_nearest_184 (by decide) (by omega) (by decide) (fun c_184_1 => ?_) (fun c_184_1 => ?_)
                    · refine j_iload_n (pc := 191) dX1_nearest_191 rfl ?_
                      refine j_istore_n (pc := 192) dX1_nearest_192 (by decide) (lo' := [some (.ref o), some (IV 0), some (IV z), some (IV (k : Int)), some (IV (σ.2 2 (σ.2 4 k).toNat)), some (IV (σ.2 21 k)), some (IV 1), some (IV (σ.2 21 k)), some (IV (-1))]) rfl ?_
                      refine j_iinc (pc := 193) dX1_nearest_193 rfl (by decide) (lo' := [some (.ref o), some (IV 0), some (IV z), some (IV ((k : Int) + 1)), some (IV (σ.2 2 (σ.2 4 k).toNat)), some (IV (σ.2 21 k)), some (IV 1), some (IV (σ.2 21 k)), some (IV (-1))]) rfl ?_
                      refine j_goto (pc := 196) (tgt := 4) dX1_nearest_196 (by decide) ?_
                      refine j_sub (lo' := [some (.ref o), some (IV 0), some (IV z), some (IV ((k : Int) + 1)), none, none, none, none, none]) ⟨Or.inr rfl, Or.inr rfl, Or.inr rfl, Or.inr rfl, Or.inl rfl, Or.inl rfl, Or.inl rfl, Or.inl rfl, Or.inl rfl, trivial⟩ ?_
                      exact ih_4 (k + 1) z (by omega) (by omega) (by subst hz9; simp only [sBest2]; split <;> first | rfl | omega)
                    · refine j_iload_n (pc := 187) dX1_nearest_187 rfl ?_
                      refine j_goto (pc := 188) (tgt := 192) dX1_nearest_188 (by decide) ?_
                      refine j_istore_n (pc := 192) dX1_nearest_192 (by decide) (lo' := [some (.ref o), some (IV 0), some (IV (k : Int)), some (IV (k : Int)), some (IV (σ.2 2 (σ.2 4 k).toNat)), some (IV (σ.2 21 k)), some (IV 1), some (IV (σ.2 21 k)), some (IV (-1))]) rfl ?_
                      refine j_iinc (pc := 193) dX1_nearest_193 rfl (by decide) (lo' := [some (.ref o), some (IV 0), some (IV (k : Int)), some (IV ((k : Int) + 1)), some (IV (σ.2 2 (σ.2 4 k).toNat)), some (IV (σ.2 21 k)), some (IV 1), some (IV (σ.2 21 k)), some (IV (-1))]) rfl ?_
                      refine j_goto (pc := 196) (tgt := 4) dX1_nearest_196 (by decide) ?_
                      refine j_sub (lo' := [some (.ref o), some (IV 0), some (IV (k : Int)), some (IV ((k : Int) + 1)), none, none, none, none, none]) ⟨Or.inr rfl, Or.inr rfl, Or.inr rfl, Or.inr rfl, Or.inl rfl, Or.inl rfl, Or.inl rfl, Or.inl rfl, Or.inl rfl, trivial⟩ ?_
                      exact ih_4 (k + 1) (k : Int) (by omega) (by omega) (by subst hz9; simp only [sBest2]; split <;> first | rfl | omega)
            · exact absurd c_100_1 (by decide)
          · exact absurd c_68 (by decide)
  exact hl_4 _ 0 (-1) (Nat.lt_succ_self _) (by omega) rfl

theorem fa_X1_158_X4 : FA RX1 158 4 1 := ⟨RX4, TX4, 4, "BallotFoundry$Person", rfl, in_X4, by decide, q574, Or.inl rfl⟩
theorem md_yX1_nearest : MD yX1_nearest 1 := by decide +kernel
theorem fp_X1_156_X10 : FP RX1 156 8 3 (.int) false := ⟨RX10, TX10, 4, "BallotFoundry$Box", tyX10, rfl, in_X10, by decide, q794, Or.inl rfl, tyX10_ok, nmX10, rfl, rfl, fun h => nomatch h⟩
set_option maxHeartbeats 4000000 in
theorem c_makeRoll {Γ : GG} {A : Nat → Prop} {K : KK} {l : Launch} (h : AL2) (hke : KE Γ A K) (hfe : FE Γ) (hne : NE Γ) (hko10 : KO Γ RX10) (o : Nat) (ad : AD) (σ : MM) (hR : Rel K h o ad σ) (hB : Bd σ) (hz : σ.1 14 ≠ 0) (h14 : σ.1 14 = 1) (hz19 : σ.1 19 = 0) (hE : ∀ s : Nat, s < 5 → (0 : Int) ≤ s → σ.2 21 s = 0 ∧ σ.2 28 s = 0 ∧ σ.2 31 s = 0 ∧ σ.2 32 s = -1) (hP : RollPre σ) (h61 : 1 ≤ σ.1 6) : Ct Γ A (Rep2 Γ A K) l yX1_makeRoll (ws_ yX1_makeRoll cX1_makeRoll 5 none) 8 20 200 [.ref o] h (qV (fun (h' : AL2) => ∃ ad', Rel K h' o ad' (setI (sRoll σ) 14 1))) X0 := by
  refine Ct.ofJ (own := RX1) (nm := "makeRoll") (lo := [some (.ref o), none, none, none, none]) pn_X1 rfl rfl (List.forall_mem_cons.mpr ⟨rfl, (fun _ h => nomatch h)⟩) (Nat.le_of_ble_eq_true rfl) rfl ?_
  have hQ : ∀ (h' : AL2), (∃ ad', Rel K h' o ad' (setI (sRoll σ) 14 1)) → (qV (fun (h' : AL2) => ∃ ad', Rel K h' o ad' (setI (sRoll σ) 14 1))) none h' := fun h' h => ⟨rfl, h⟩
  generalize (qV (fun (h' : AL2) => ∃ ad', Rel K h' o ad' (setI (sRoll σ) 14 1))) = QP at hQ ⊢
  have n6 : 0 ≤ σ.1 6 ∧ σ.1 6 ≤ 5 := hB.1 6
  have n9 : 0 ≤ σ.1 9 ∧ σ.1 9 ≤ 20 := hB.1 9
  refine j_iconst (pc := 0) dX1_makeRoll_0 rfl ?_
  refine j_istore_n (pc := 1) dX1_makeRoll_1 (by decide) (lo' := [some (.ref o), some (IV 0), none, none, none]) rfl ?_
  have hl_2 : ∀ (fu : Nat) (m8 : Nat) (g : AL2) (ad9 : AD), (σ.1 6).toNat - m8 < fu → (m8 : Int) ≤ σ.1 6 → Rel K g o ad9 (setI σ 19 m8) → J Γ A (Rep2 Γ A K) l RX1 "makeRoll" cX1_makeRoll 5 none [] 8 20 200 QP X0 ((((σ.1 6).toNat - m8) * 4) + 0) ((((σ.1 6).toNat - m8) * 40) + 0) g 2 [some (.ref o), some (IV (m8 : Int)), none, none, none] [] := by
    intro fu
    induction fu with
    | zero => intro m8 g ad9 hm; exact absurd hm (Nat.not_lt_zero _)
    | succ fu ih_2 =>
      intro m8 g ad9 hm hk hg
      refine j_iload_n (pc := 2) dX1_makeRoll_2 rfl ?_
      refine j_aload_n (pc := 3) dX1_makeRoll_3 rfl ?_
      refine j2_get fa_X1_20_X1 (show g (o) = some (pO 0 [.ref (ad9 1 0 0), .ref (ad9 2 0 0), .ref (ad9 3 0 0), .ref (ad9 4 0 0), .ref (ad9 12 0 0), IV (σ.1 0), .ref (ad9 5 0 0), .ref (ad9 6 0 0)]) from hg.top1 hz) rfl dX1_makeRoll_4 ?_
      refine j_callF (pc := 7) (xm := ⟨"java/util/List", "size", "()I"⟩) (l2_size (show g (ad9 3 0 0) = some (pL (rg (σ.1 6) (fun p => ad9 8 p 0))) from hg.at 3 0 0 ⟨rfl, rfl⟩)) (lw_F q155 q159 q161 q47 q163) hfe.1 (ci := 2) rfl rfl mdx_yJ2_size (RC.ofL (show g (ad9 3 0 0) = some (pL (rg (σ.1 6) (fun p => ad9 8 p 0))) from hg.at 3 0 0 ⟨rfl, rfl⟩)) (by decide) (by decide) rfl (Nat.le_of_ble_eq_true rfl) dX1_makeRoll_7 (qI.k (fun r_7 s_7 q_7 => ?_))
      obtain ⟨e1q_7, e2q_7⟩ := q_7
      subst s_7
      rw [rg_len (by omega)] at e1q_7
      subst r_7
      refine j_icmp_ge (pc := 12) (tgt := 41) dX1_makeRoll_12 (by decide) (by omega) (by omega) (fun c_12 => ?_) (fun c_12 => ?_)
      · refine j_iconst (pc := 41) dX1_makeRoll_41 rfl ?_
        refine j_istore_n (pc := 42) dX1_makeRoll_42 (by decide) (lo' := [some (.ref o), some (IV 0), none, none, none]) rfl ?_
        have hl_43 : ∀ (fu : Nat) (p : Nat) (g2 : AL2) (u : MM), (σ.1 9).toNat - p < fu → (p : Int) ≤ σ.1 9 → u = setI (sRollN σ p) 14 (σ.1 14) → Rel K g2 o ad9 u → J Γ A (Rep2 Γ A K) l RX1 "makeRoll" cX1_makeRoll 5 none [] 8 20 200 QP X0 0 0 g2 43 [some (.ref o), some (IV (p : Int)), none, none, none] [] := by
          intro fu
          induction fu with
          | zero => intro p g2 u hm; exact absurd hm (Nat.not_lt_zero _)
          | succ fu ih_43 =>
            intro p g2 u hm hp hu hg2
            have hr := rollI hP p (by omega) (by omega)
            have hBu : Bd u := by rw [hu]; exact hr.1.i (hB.1 14)
            have f1 : ∀ x, x ≠ 14 → x ≠ 19 → u.1 x = σ.1 x := fun x h1 h2 => by rw [hu, setI_1, if_neg h1, (sRollN_fr σ 10 (by decide) p).1]; show (if x = 19 then _ else if x = 14 then _ else _) = _; rw [if_neg h2, if_neg h1]
            have f19 : u.1 19 = σ.1 6 := by rw [hu, setI_1, if_neg (by decide), (sRollN_fr σ 10 (by decide) p).1]; rfl
            have f14 : u.1 14 = σ.1 14 := by rw [hu]; rfl
            have hzu : u.1 14 ≠ 0 := by rw [f14]; exact hz
            have f9 := f1 9 (by decide) (by decide)
            have f6 := f1 6 (by decide) (by decide)
            have f15 := f1 15 (by decide) (by decide)
            have g15 : 0 ≤ u.1 15 ∧ u.1 15 ≤ 2000 := hBu.1 15
            have fc : sRollC u p = sDwelt σ p (σ.1 15 - 7) (σ.1 13).toNat := by rw [hu]; exact (sDwelt_ext (σ := sRollN σ p) (s := setI (sRollN σ p) 14 (σ.1 14)) rfl rfl rfl p ((sRollN σ p).1 15 - 7) ((sRollN σ p).1 13).toNat).trans (sRollC_eq σ p p)
            have fd := sDwelt_rng hP.1 p (σ.1 15 - 7) (σ.1 13).toNat
            have n9u : 0 ≤ u.1 9 ∧ u.1 9 ≤ 20 := hBu.1 9
            have n6u : 0 ≤ u.1 6 ∧ u.1 6 ≤ 5 := hBu.1 6
            have n19u : 0 ≤ u.1 19 ∧ u.1 19 ≤ 5 := hBu.1 19
            refine j_iload_n (pc := 43) dX1_makeRoll_43 rfl ?_
            refine j_aload_n (pc := 44) dX1_makeRoll_44 rfl ?_
            refine j2_get fa_X1_16_X1 (show g2 (o) = some (pO 0 [.ref (ad9 1 0 0), .ref (ad9 2 0 0), .ref (ad9 3 0 0), .ref (ad9 4 0 0), .ref (ad9 12 0 0), IV (u.1 0), .ref (ad9 5 0 0), .ref (ad9 6 0 0)]) from hg2.top1 hzu) rfl dX1_makeRoll_45 ?_
            refine j_callF (pc := 48) (xm := ⟨"java/util/List", "size", "()I"⟩) (l2_size (show g2 (ad9 2 0 0) = some (pL (rg (u.1 9) (fun p => ad9 7 p 0))) from hg2.at 2 0 0 ⟨rfl, rfl⟩)) (lw_F q155 q159 q161 q47 q163) hfe.1 (ci := 2) rfl rfl mdx_yJ2_size (RC.ofL (show g2 (ad9 2 0 0) = some (pL (rg (u.1 9) (fun p => ad9 7 p 0))) from hg2.at 2 0 0 ⟨rfl, rfl⟩)) (by decide) (by decide) rfl (Nat.le_of_ble_eq_true rfl) dX1_makeRoll_48 (qI.k (fun r_48 s_48 q_48 => ?_))
            obtain ⟨e1q_48, e2q_48⟩ := q_48
            subst s_48
            rw [rg_len (by omega)] at e1q_48
            subst r_48
            refine j_icmp_ge (pc := 53) (tgt := 194) dX1_makeRoll_53 (by decide) (by omega) (by omega) (fun c_53 => ?_) (fun c_53 => ?_)
            · refine j_vret (pc := 194) rfl (hQ _ ?_) dX1_makeRoll_194
              have e9 : p = (σ.1 9).toNat := by omega
              exact ⟨ad9, by have h9 := hg2; rw [hu, e9, h14] at h9; exact h9⟩
            · refine j_aload_n (pc := 56) dX1_makeRoll_56 rfl ?_
              refine j2_get fa_X1_16_X1 (show g2 (o) = some (pO 0 [.ref (ad9 1 0 0), .ref (ad9 2 0 0), .ref (ad9 3 0 0), .ref (ad9 4 0 0), .ref (ad9 12 0 0), IV (u.1 0), .ref (ad9 5 0 0), .ref (ad9 6 0 0)]) from hg2.top1 hzu) rfl dX1_makeRoll_57 ?_
              refine j_iload_n (pc := 60) dX1_makeRoll_60 rfl ?_
              refine j_callF (pc := 61) (xm := ⟨"java/util/List", "get", "(I)Ljava/lang/Object;"⟩) (l2_get (show g2 (ad9 2 0 0) = some (pL (rg (u.1 9) (fun p => ad9 7 p 0))) from hg2.at 2 0 0 ⟨rfl, rfl⟩) (i := (p : Int)) (v := ad9 7 p 0) (by omega) (rg_at (by omega) (by omega))) (lw_F q551 q185 q187 q47 q189) hfe.2.2.1 (ci := 2) rfl rfl mdx_yJ2_get (RC.ofL (show g2 (ad9 2 0 0) = some (pL (rg (u.1 9) (fun p => ad9 7 p 0))) from hg2.at 2 0 0 ⟨rfl, rfl⟩)) (by decide) (by decide) rfl (Nat.le_of_ble_eq_true rfl) dX1_makeRoll_61 (qR.k (fun r_61 s_61 q_61 => ?_))
              obtain ⟨e1q_61, e2q_61⟩ := q_61
              subst r_61
              subst s_61
              refine j2_castS (C := RX4) rfl q559 (show g2 (ad9 7 p 0) = some (pO 4 [IV ((p : Nat) : Int), IV (u.2 7 p), .ref (ad9 9 p 0), IV (u.2 8 p)]) from hg2.at 7 p 0 ⟨(by omega), rfl⟩) dX1_makeRoll_66 ?_
              refine j_astore_n (pc := 69) dX1_makeRoll_69 (by decide) (lo' := [some (.ref o), some (IV (p : Int)), some (.ref (ad9 7 p 0)), none, none]) rfl ?_
              refine j_aload_n (pc := 70) dX1_makeRoll_70 rfl ?_
              refine j_aload_n (pc := 71) dX1_makeRoll_71 rfl ?_
              refine j2_get fa_X1_58_X1 (show g2 (o) = some (pO 0 [.ref (ad9 1 0 0), .ref (ad9 2 0 0), .ref (ad9 3 0 0), .ref (ad9 4 0 0), .ref (ad9 12 0 0), IV (u.1 0), .ref (ad9 5 0 0), .ref (ad9 6 0 0)]) from hg2.top1 hzu) rfl dX1_makeRoll_72 ?_
              refine j2_get fa_X1_147_X9 (show g2 (ad9 12 0 0) = some (pO 7 [IV (u.1 15), IV (u.1 16), IV (u.1 17), .ref (ad9 13 0 0), .ref (ad9 14 0 0), .ref (ad9 15 0 0), .ref (ad9 16 0 0), .ref (ad9 17 0 0), .ref (ad9 18 0 0), IV (u.1 14)]) from hg2.at 12 0 0 ⟨hzu, rfl, rfl⟩) rfl dX1_makeRoll_75 ?_
              have n_1 : 0 ≤ u.1 15 ∧ u.1 15 ≤ 2000 := hBu.1 15
              refine j_bipush (pc := 78) (a := 7) dX1_makeRoll_78 (by decide) ?_
              refine j_isub (pc := 80) dX1_makeRoll_80 ?_
              refine j_callV (pc := 81) (c_pDwells g2 hfe o ad9 u hg2 hBu p (by omega) ((u.1 15) - 7) (by omega)) (lw_V q684 q685 q686 q64 q687) rfl md_yX4_dwells_2 (RC.of2 (show g2 (ad9 7 p 0) = some (pO 4 [IV ((p : Nat) : Int), IV (u.2 7 p), .ref (ad9 9 p 0), IV (u.2 8 p)]) from hg2.at 7 p 0 ⟨(by omega), rfl⟩) rfl) (by decide) (by decide) rfl (Nat.le_of_ble_eq_true rfl) dX1_makeRoll_81 (qI.k (fun r_81 s_81 q_81 => ?_))
              obtain ⟨e1q_81, e2q_81⟩ := q_81
              subst r_81
              subst s_81
              have hd1 : sDwelt u p (u.1 15 - 7) (u.1 13).toNat = sRollC u p := rfl
              have fe := hP.2.2 p (by omega)
              refine j_istore_n (pc := 84) dX1_makeRoll_84 (by decide) (lo' := [some (.ref o), some (IV (p : Int)), some (.ref (ad9 7 p 0)), some (IV (sDwelt u p ((u.1 15) - 7) (u.1 13).toNat)), none]) rfl ?_
              refine j_aload_n (pc := 85) dX1_makeRoll_85 rfl ?_
              refine j2_get fa_X1_120_X4 (show g2 (ad9 7 p 0) = some (pO 4 [IV ((p : Nat) : Int), IV (u.2 7 p), .ref (ad9 9 p 0), IV (u.2 8 p)]) from hg2.at 7 p 0 ⟨(by omega), rfl⟩) rfl dX1_makeRoll_86 ?_
              have n_2 : 0 ≤ u.2 8 p ∧ u.2 8 p ≤ 1 := hBu.2 8 p
              refine j_if_ne (pc := 89) (tgt := 188) dX1_makeRoll_89 (by decide) (by omega) (fun c_89 => ?_) (fun c_89 => ?_)
              · refine j_iinc (pc := 188) dX1_makeRoll_188 rfl (by decide) (lo' := [some (.ref o), some (IV ((p : Int) + 1)), some (.ref (ad9 7 p 0)), some (IV (sDwelt u p ((u.1 15) - 7) (u.1 13).toNat)), none]) rfl ?_
                refine j_goto (pc := 191) (tgt := 43) dX1_makeRoll_191 (by decide) ?_
                refine j_sub (lo' := [some (.ref o), some (IV ((p : Int) + 1)), none, none, none]) ⟨Or.inr rfl, Or.inr rfl, Or.inl rfl, Or.inl rfl, Or.inl rfl, trivial⟩ ?_
                exact j_room (by omega) (by omega) (ih_43 (p + 1) g2 u (by omega) (by omega) (by show u = setI (sRollStep (sRollN σ p) p) 14 (σ.1 14); rw [← sRollStep_setI, ← hu]; unfold sRollStep; rw [if_neg (by omega)]) hg2)
              · refine j_aload_n (pc := 92) dX1_makeRoll_92 rfl ?_
                refine j2_get fa_X1_158_X4 (show g2 (ad9 7 p 0) = some (pO 4 [IV ((p : Nat) : Int), IV (u.2 7 p), .ref (ad9 9 p 0), IV (u.2 8 p)]) from hg2.at 7 p 0 ⟨(by omega), rfl⟩) rfl dX1_makeRoll_93 ?_
                have n_3 : 0 ≤ u.2 7 p ∧ u.2 7 p ≤ 2000 := hBu.2 7 p
                refine j_aload_n (pc := 96) dX1_makeRoll_96 rfl ?_
                refine j2_get fa_X1_58_X1 (show g2 (o) = some (pO 0 [.ref (ad9 1 0 0), .ref (ad9 2 0 0), .ref (ad9 3 0 0), .ref (ad9 4 0 0), .ref (ad9 12 0 0), IV (u.1 0), .ref (ad9 5 0 0), .ref (ad9 6 0 0)]) from hg2.top1 hzu) rfl dX1_makeRoll_97 ?_
                refine j2_get fa_X1_147_X9 (show g2 (ad9 12 0 0) = some (pO 7 [IV (u.1 15), IV (u.1 16), IV (u.1 17), .ref (ad9 13 0 0), .ref (ad9 14 0 0), .ref (ad9 15 0 0), .ref (ad9 16 0 0), .ref (ad9 17 0 0), .ref (ad9 18 0 0), IV (u.1 14)]) from hg2.at 12 0 0 ⟨hzu, rfl, rfl⟩) rfl dX1_makeRoll_100 ?_
                refine j_icmp_gt (pc := 103) (tgt := 188) dX1_makeRoll_103 (by decide) (by omega) (by omega) (fun c_103 => ?_) (fun c_103 => ?_)
                · refine j_iinc (pc := 188) dX1_makeRoll_188 rfl (by decide) (lo' := [some (.ref o), some (IV ((p : Int) + 1)), some (.ref (ad9 7 p 0)), some (IV (sDwelt u p ((u.1 15) - 7) (u.1 13).toNat)), none]) rfl ?_
                  refine j_goto (pc := 191) (tgt := 43) dX1_makeRoll_191 (by decide) ?_
                  refine j_sub (lo' := [some (.ref o), some (IV ((p : Int) + 1)), none, none, none]) ⟨Or.inr rfl, Or.inr rfl, Or.inl rfl, Or.inl rfl, Or.inl rfl, trivial⟩ ?_
                  exact j_room (by omega) (by omega) (ih_43 (p + 1) g2 u (by omega) (by omega) (by show u = setI (sRollStep (sRollN σ p) p) 14 (σ.1 14); rw [← sRollStep_setI, ← hu]; unfold sRollStep; rw [if_neg (by omega)]) hg2)
                · refine j_iload_n (pc := 106) dX1_makeRoll_106 rfl ?_
                  refine j_iconst (pc := 107) dX1_makeRoll_107 rfl ?_
                  refine j_icmp_eq (pc := 108) (tgt := 188) dX1_makeRoll_108 (by decide) (by omega) (by decide) (fun c_108 => ?_) (fun c_108 => ?_)
                  · refine j_iinc (pc := 188) dX1_makeRoll_188 rfl (by decide) (lo' := [some (.ref o), some (IV ((p : Int) + 1)), some (.ref (ad9 7 p 0)), some (IV (sDwelt u p ((u.1 15) - 7) (u.1 13).toNat)), none]) rfl ?_
                    refine j_goto (pc := 191) (tgt := 43) dX1_makeRoll_191 (by decide) ?_
                    refine j_sub (lo' := [some (.ref o), some (IV ((p : Int) + 1)), none, none, none]) ⟨Or.inr rfl, Or.inr rfl, Or.inl rfl, Or.inl rfl, Or.inl rfl, trivial⟩ ?_
                    exact j_room (by omega) (by omega) (ih_43 (p + 1) g2 u (by omega) (by omega) (by show u = setI (sRollStep (sRollN σ p) p) 14 (σ.1 14); rw [← sRollStep_setI, ← hu]; unfold sRollStep; rw [if_neg (by omega)]) hg2)
                  · refine j_aload_n (pc := 111) dX1_makeRoll_111 rfl ?_
                    refine j_iload_n (pc := 112) dX1_makeRoll_112 rfl ?_
                    refine j_callV (pc := 113) (c_walkFrom g2 o ad9 u hg2 hBu (sDwelt u p ((u.1 15) - 7) (u.1 13).toNat) (by omega)) (lw_V q428 q430 qs8 q44 q431) rfl md_yX1_walkFrom (RC.of2 (show g2 (o) = some (pO 0 [.ref (ad9 1 0 0), .ref (ad9 2 0 0), .ref (ad9 3 0 0), .ref (ad9 4 0 0), .ref (ad9 12 0 0), IV (u.1 0), .ref (ad9 5 0 0), .ref (ad9 6 0 0)]) from hg2.top1 hzu) rfl) (by decide) (by decide) rfl (Nat.le_of_ble_eq_true rfl) dX1_makeRoll_113 (qV.k (fun s_113 q_113 => ?_))
                    obtain ⟨w, hw⟩ : ∃ w, w = sFinds u (sDwelt u p ((u.1 15) - 7) (u.1 13).toNat) := ⟨_, rfl⟩
                    have Rw := q_113.1
                    have hBw := q_113.2
                    rw [← hw] at Rw hBw
                    have w1 : w.1 = u.1 := by rw [hw]; exact sFinds_1 _ _
                    have hzw : w.1 14 ≠ 0 := by rw [w1]; exact hzu
                    have w6 : w.1 6 = u.1 6 := by rw [w1]
                    have w9 : w.1 9 = u.1 9 := by rw [w1]
                    have w15 : w.1 15 = u.1 15 := by rw [w1]
                    have w19 : w.1 19 = u.1 19 := by rw [w1]
                    have w21 : w.2 21 = u.2 21 := by rw [hw]; exact sFinds_2 _ _ (by decide)
                    refine j_aload_n (pc := 116) dX1_makeRoll_116 rfl ?_
                    refine j_iconst (pc := 117) dX1_makeRoll_117 rfl ?_
                    refine j_callV (pc := 118) (c_near1 s_113 hfe o ad9 w Rw hBw hzw (by omega)) (lw_V q804 q806 qs15 q44 q807) rfl md_yX1_nearest (RC.of2 (show s_113 (o) = some (pO 0 [.ref (ad9 1 0 0), .ref (ad9 2 0 0), .ref (ad9 3 0 0), .ref (ad9 4 0 0), .ref (ad9 12 0 0), IV (w.1 0), .ref (ad9 5 0 0), .ref (ad9 6 0 0)]) from Rw.top1 hzw) rfl) (by decide) (by decide) rfl (Nat.le_of_ble_eq_true rfl) dX1_makeRoll_118 (qI.k (fun r_118 s_118 q_118 => ?_))
                    obtain ⟨e1q_118, e2q_118⟩ := q_118
                    subst r_118
                    subst s_118
                    have rn_118 := sBest1_rng w (w.1 19).toNat
                    refine j_iconst (pc := 121) dX1_makeRoll_121 rfl ?_
                    refine j_icmp_eq (pc := 122) (tgt := 133) dX1_makeRoll_122 (by decide) (by omega) (by decide) (fun c_122 => ?_) (fun c_122 => ?_)
                    · refine j_aload_n (pc := 133) dX1_makeRoll_133 rfl ?_
                      refine j_iconst (pc := 134) dX1_makeRoll_134 rfl ?_
                      refine j_callV (pc := 135) (c_near0 s_113 hfe o ad9 w Rw hBw hzw (by omega)) (lw_V q804 q806 qs15 q44 q807) rfl md_yX1_nearest (RC.of2 (show s_113 (o) = some (pO 0 [.ref (ad9 1 0 0), .ref (ad9 2 0 0), .ref (ad9 3 0 0), .ref (ad9 4 0 0), .ref (ad9 12 0 0), IV (w.1 0), .ref (ad9 5 0 0), .ref (ad9 6 0 0)]) from Rw.top1 hzw) rfl) (by decide) (by decide) rfl (Nat.le_of_ble_eq_true rfl) dX1_makeRoll_135 (qI.k (fun r_135 s_135 q_135 => ?_))
                      obtain ⟨e1q_135, e2q_135⟩ := q_135
                      subst r_135
                      subst s_135
                      have rn_135 := sBest2_rng w (w.1 19).toNat
                      refine j_istore (pc := 138) dX1_makeRoll_138 (by decide) (lo' := [some (.ref o), some (IV (p : Int)), some (.ref (ad9 7 p 0)), some (IV (sDwelt u p ((u.1 15) - 7) (u.1 13).toNat)), some (IV (sBest2 w (w.1 19).toNat))]) rfl ?_
                      refine j_aload_n (pc := 140) dX1_makeRoll_140 rfl ?_
                      refine j2_get fa_X1_58_X1 (show s_113 (o) = some (pO 0 [.ref (ad9 1 0 0), .ref (ad9 2 0 0), .ref (ad9 3 0 0), .ref (ad9 4 0 0), .ref (ad9 12 0 0), IV (w.1 0), .ref (ad9 5 0 0), .ref (ad9 6 0 0)]) from Rw.top1 hzw) rfl dX1_makeRoll_141 ?_
                      refine j2_get fa_X1_165_X9 (show s_113 (ad9 12 0 0) = some (pO 7 [IV (w.1 15), IV (w.1 16), IV (w.1 17), .ref (ad9 13 0 0), .ref (ad9 14 0 0), .ref (ad9 15 0 0), .ref (ad9 16 0 0), .ref (ad9 17 0 0), .ref (ad9 18 0 0), IV (w.1 14)]) from Rw.at 12 0 0 ⟨hzw, rfl, rfl⟩) rfl dX1_makeRoll_144 ?_
                      refine j_iload_n (pc := 147) dX1_makeRoll_147 rfl ?_
                      refine j_iload (pc := 148) dX1_makeRoll_148 rfl ?_
                      refine j_iconst (pc := 150) dX1_makeRoll_150 rfl ?_
                      refine j_callS (pc := 151) (k_max s_113 (sBest2 w (w.1 19).toNat) 0 (by omega) (by decide)) (lw_S q400 q401 q55 q402) md_yJ9_max (by decide) (by decide) rfl (Nat.le_of_ble_eq_true rfl) dX1_makeRoll_151 (qI.k (fun r_151 s_151 q_151 => ?_))
                      obtain ⟨e1q_151, e2q_151⟩ := q_151
                      subst r_151
                      subst s_151
                      refine j_nameI (fun x_151 ex_151 => ?_)
                      have hx9 : sFor w = x_151 := by unfold sFor; (repeat' split) <;> omega
                      have hx8 := sFor_rng hBw
                      have hx7 : x_151 < w.1 19 := by have h9 := sFor_lt (σ := w) (by omega); omega
                      refine j2_iast (i := (p : Int)) (show s_113 (ad9 14 0 0) = some (pA 0 20 (w.2 20)) from Rw.at 14 0 0 ⟨hzw, rfl, rfl⟩) (by show 0 ≤ (p : Int) ∧ (p : Int) < ((20 : Nat) : Int); omega) dX1_makeRoll_154 (fun h_154 e_154 => ?_)
                      have z_4 : h_154 (ad9 14 0 0) = some (pA 0 20 (uA (w.2 20) p x_151)) := by rw [e_154]; exact upH_self _ _ _
                      have R_5 : Rel K h_154 o ad9 (setA w 20 p x_151) := Rw.own hzw e_154
                      refine j_aload_n (pc := 155) dX1_makeRoll_155 rfl ?_
                      refine j2_get fa_X1_58_X1 (show h_154 (o) = some (pO 0 [.ref (ad9 1 0 0), .ref (ad9 2 0 0), .ref (ad9 3 0 0), .ref (ad9 4 0 0), .ref (ad9 12 0 0), IV (w.1 0), .ref (ad9 5 0 0), .ref (ad9 6 0 0)]) from R_5.top1 hzw) rfl dX1_makeRoll_156 ?_
                      refine j2_get fa_X1_62_X9 (show h_154 (ad9 12 0 0) = some (pO 7 [IV (w.1 15), IV (w.1 16), IV (w.1 17), .ref (ad9 13 0 0), .ref (ad9 14 0 0), .ref (ad9 15 0 0), .ref (ad9 16 0 0), .ref (ad9 17 0 0), .ref (ad9 18 0 0), IV (w.1 14)]) from R_5.at 12 0 0 ⟨hzw, rfl, rfl⟩) rfl dX1_makeRoll_159 ?_
                      refine j_aload_n (pc := 162) dX1_makeRoll_162 rfl ?_
                      refine j2_get fa_X1_58_X1 (show h_154 (o) = some (pO 0 [.ref (ad9 1 0 0), .ref (ad9 2 0 0), .ref (ad9 3 0 0), .ref (ad9 4 0 0), .ref (ad9 12 0 0), IV (w.1 0), .ref (ad9 5 0 0), .ref (ad9 6 0 0)]) from R_5.top1 hzw) rfl dX1_makeRoll_163 ?_
                      refine j2_get fa_X1_165_X9 (show h_154 (ad9 12 0 0) = some (pO 7 [IV (w.1 15), IV (w.1 16), IV (w.1 17), .ref (ad9 13 0 0), .ref (ad9 14 0 0), .ref (ad9 15 0 0), .ref (ad9 16 0 0), .ref (ad9 17 0 0), .ref (ad9 18 0 0), IV (w.1 14)]) from R_5.at 12 0 0 ⟨hzw, rfl, rfl⟩) rfl dX1_makeRoll_166 ?_
                      refine j_iload_n (pc := 169) dX1_makeRoll_169 rfl ?_
                      refine j2_iald (i := (p : Int)) (show h_154 (ad9 14 0 0) = some (pA 0 20 (uA (w.2 20) p x_151)) from R_5.at 14 0 0 ⟨hzw, rfl, rfl⟩) (by show 0 ≤ (p : Int) ∧ (p : Int) < ((20 : Nat) : Int); omega) dX1_makeRoll_170 ?_
                      refine j_eqI x_151 (uA_self _ _ _).symm ?_
                      refine j_callF (pc := 171) (xm := ⟨"java/util/List", "get", "(I)Ljava/lang/Object;"⟩) (l2_get (show h_154 (ad9 16 0 0) = some (pL (rg (w.1 19) (fun q => ad9 19 q 0))) from R_5.at 16 0 0 ⟨hzw, rfl, rfl⟩) (i := x_151) (v := ad9 19 (x_151).toNat 0) (by omega) (rg_at (by omega) (by omega))) (lw_F q551 q185 q187 q47 q189) hfe.2.2.1 (ci := 2) rfl rfl mdx_yJ2_get (RC.ofL (show h_154 (ad9 16 0 0) = some (pL (rg (w.1 19) (fun q => ad9 19 q 0))) from R_5.at 16 0 0 ⟨hzw, rfl, rfl⟩)) (by decide) (by decide) rfl (Nat.le_of_ble_eq_true rfl) dX1_makeRoll_171 (qR.k (fun r_171 s_171 q_171 => ?_))
                      obtain ⟨e1q_171, e2q_171⟩ := q_171
                      subst r_171
                      subst s_171
                      refine j2_castS (C := RX10) rfl q777 (show h_154 (ad9 19 (x_151).toNat 0) = some (pO 8 [.ref (ad9 20 (x_151).toNat 0), .ref (ad9 21 (x_151).toNat 0), va_rf (if w.2 32 (x_151).toNat = -1 then none else some (ad9 24 (x_151).toNat 0)), IV (w.2 21 (x_151).toNat)]) from R_5.at 19 (x_151).toNat 0 ⟨hzw, (by show (_ : Int) < w.1 19; omega), rfl⟩) dX1_makeRoll_176 ?_
                      refine j_dup (pc := 179) dX1_makeRoll_179 rfl ?_
                      refine j2_get fa_X1_156_X10 (show h_154 (ad9 19 (x_151).toNat 0) = some (pO 8 [.ref (ad9 20 (x_151).toNat 0), .ref (ad9 21 (x_151).toNat 0), va_rf (if w.2 32 (x_151).toNat = -1 then none else some (ad9 24 (x_151).toNat 0)), IV (w.2 21 (x_151).toNat)]) from R_5.at 19 (x_151).toNat 0 ⟨hzw, (by show (_ : Int) < w.1 19; omega), rfl⟩) rfl dX1_makeRoll_180 ?_
                      have n_6 : 0 ≤ w.2 21 (x_151).toNat ∧ w.2 21 (x_151).toNat ≤ 20 := hBw.2 21 ((x_151).toNat)
                      refine j_iconst (pc := 183) dX1_makeRoll_183 rfl ?_
                      refine j_iadd (pc := 184) dX1_makeRoll_184 ?_
                      refine j2_put fp_X1_156_X10 (show h_154 (ad9 19 (x_151).toNat 0) = some (pO 8 [.ref (ad9 20 (x_151).toNat 0), .ref (ad9 21 (x_151).toNat 0), va_rf (if w.2 32 (x_151).toNat = -1 then none else some (ad9 24 (x_151).toNat 0)), IV (w.2 21 (x_151).toNat)]) from R_5.at 19 (x_151).toNat 0 ⟨hzw, (by show (_ : Int) < w.1 19; omega), rfl⟩) (by decide) (Nat.le_of_ble_eq_true rfl) rfl rfl dX1_makeRoll_185 (fun h_185 e_185 => ?_)
                      have z_7 : h_185 (ad9 19 (x_151).toNat 0) = some (pO 8 [.ref (ad9 20 (x_151).toNat 0), .ref (ad9 21 (x_151).toNat 0), va_rf (if w.2 32 (x_151).toNat = -1 then none else some (ad9 24 (x_151).toNat 0)), IV ((w.2 21 (x_151).toNat) + 1)]) := by rw [e_185]; exact upH_self _ _ _
                      have R_8 : Rel K h_185 o ad9 (setA (setA w 20 p x_151) 21 (x_151).toNat ((w.2 21 (x_151).toNat) + 1)) := R_5.people hzw (by show (_ : Int) < w.1 19; omega) e_185
                      refine j_iinc (pc := 188) dX1_makeRoll_188 rfl (by decide) (lo' := [some (.ref o), some (IV ((p : Int) + 1)), some (.ref (ad9 7 p 0)), some (IV (sDwelt u p ((u.1 15) - 7) (u.1 13).toNat)), some (IV (sBest2 w (w.1 19).toNat))]) rfl ?_
                      refine j_goto (pc := 191) (tgt := 43) dX1_makeRoll_191 (by decide) ?_
                      refine j_sub (lo' := [some (.ref o), some (IV ((p : Int) + 1)), none, none, none]) ⟨Or.inr rfl, Or.inr rfl, Or.inl rfl, Or.inl rfl, Or.inl rfl, trivial⟩ ?_
                      exact j_room (by omega) (by omega) (ih_43 (p + 1) h_185 (setA (setA w 20 p x_151) 21 (x_151).toNat ((w.2 21 (x_151).toNat) + 1)) (by omega) (by omega) (by show _ = setI (sRollStep (sRollN σ p) p) 14 (σ.1 14); rw [← sRollStep_setI, ← hu]; unfold sRollStep; rw [if_pos ⟨by omega, by omega⟩]; have e9 : sRollF u p = w := hw.symm; rw [e9, hx9]) R_8)
                    · refine j_aload_n (pc := 125) dX1_makeRoll_125 rfl ?_
                      refine j_iconst (pc := 126) dX1_makeRoll_126 rfl ?_
                      refine j_callV (pc := 127) (c_near1 s_113 hfe o ad9 w Rw hBw hzw (by omega)) (lw_V q804 q806 qs15 q44 q807) rfl md_yX1_nearest (RC.of2 (show s_113 (o) = some (pO 0 [.ref (ad9 1 0 0), .ref (ad9 2 0 0), .ref (ad9 3 0 0), .ref (ad9 4 0 0), .ref (ad9 12 0 0), IV (w.1 0), .ref (ad9 5 0 0), .ref (ad9 6 0 0)]) from Rw.top1 hzw) rfl) (by decide) (by decide) rfl (Nat.le_of_ble_eq_true rfl) dX1_makeRoll_127 (qI.k (fun r_127 s_127 q_127 => ?_))
                      obtain ⟨e1q_127, e2q_127⟩ := q_127
                      subst r_127
                      subst s_127
                      have rn_127 := sBest1_rng w (w.1 19).toNat
                      refine j_goto (pc := 130) (tgt := 138) dX1_makeRoll_130 (by decide) ?_
                      refine j_istore (pc := 138) dX1_makeRoll_138 (by decide) (lo' := [some (.ref o), some (IV (p : Int)), some (.ref (ad9 7 p 0)), some (IV (sDwelt u p ((u.1 15) - 7) (u.1 13).toNat)), some (IV (sBest1 w (w.1 19).toNat))]) rfl ?_
                      refine j_aload_n (pc := 140) dX1_makeRoll_140 rfl ?_
                      refine j2_get fa_X1_58_X1 (show s_113 (o) = some (pO 0 [.ref (ad9 1 0 0), .ref (ad9 2 0 0), .ref (ad9 3 0 0), .ref (ad9 4 0 0), .ref (ad9 12 0 0), IV (w.1 0), .ref (ad9 5 0 0), .ref (ad9 6 0 0)]) from Rw.top1 hzw) rfl dX1_makeRoll_141 ?_
                      refine j2_get fa_X1_165_X9 (show s_113 (ad9 12 0 0) = some (pO 7 [IV (w.1 15), IV (w.1 16), IV (w.1 17), .ref (ad9 13 0 0), .ref (ad9 14 0 0), .ref (ad9 15 0 0), .ref (ad9 16 0 0), .ref (ad9 17 0 0), .ref (ad9 18 0 0), IV (w.1 14)]) from Rw.at 12 0 0 ⟨hzw, rfl, rfl⟩) rfl dX1_makeRoll_144 ?_
                      refine j_iload_n (pc := 147) dX1_makeRoll_147 rfl ?_
                      refine j_iload (pc := 148) dX1_makeRoll_148 rfl ?_
                      refine j_iconst (pc := 150) dX1_makeRoll_150 rfl ?_
                      refine j_callS (pc := 151) (k_max s_113 (sBest1 w (w.1 19).toNat) 0 (by omega) (by decide)) (lw_S q400 q401 q55 q402) md_yJ9_max (by decide) (by decide) rfl (Nat.le_of_ble_eq_true rfl) dX1_makeRoll_151 (qI.k (fun r_151_1 s_151_1 q_151_1 => ?_))
                      obtain ⟨e1q_151_1, e2q_151_1⟩ := q_151_1
                      subst r_151_1
                      subst s_151_1
                      refine j_nameI (fun x_151_1 ex_151_1 => ?_)
                      have hx9 : sFor w = x_151_1 := by unfold sFor; (repeat' split) <;> omega
                      have hx8 := sFor_rng hBw
                      have hx7 : x_151_1 < w.1 19 := by have h9 := sFor_lt (σ := w) (by omega); omega
                      refine j2_iast (i := (p : Int)) (show s_113 (ad9 14 0 0) = some (pA 0 20 (w.2 20)) from Rw.at 14 0 0 ⟨hzw, rfl, rfl⟩) (by show 0 ≤ (p : Int) ∧ (p : Int) < ((20 : Nat) : Int); omega) dX1_makeRoll_154 (fun h_154_1 e_154_1 => ?_)
                      have z_9 : h_154_1 (ad9 14 0 0) = some (pA 0 20 (uA (w.2 20) p x_151_1)) := by rw [e_154_1]; exact upH_self _ _ _
                      have R_10 : Rel K h_154_1 o ad9 (setA w 20 p x_151_1) := Rw.own hzw e_154_1
                      refine j_aload_n (pc := 155) dX1_makeRoll_155 rfl ?_
                      refine j2_get fa_X1_58_X1 (show h_154_1 (o) = some (pO 0 [.ref (ad9 1 0 0), .ref (ad9 2 0 0), .ref (ad9 3 0 0), .ref (ad9 4 0 0), .ref (ad9 12 0 0), IV (w.1 0), .ref (ad9 5 0 0), .ref (ad9 6 0 0)]) from R_10.top1 hzw) rfl dX1_makeRoll_156 ?_
                      refine j2_get fa_X1_62_X9 (show h_154_1 (ad9 12 0 0) = some (pO 7 [IV (w.1 15), IV (w.1 16), IV (w.1 17), .ref (ad9 13 0 0), .ref (ad9 14 0 0), .ref (ad9 15 0 0), .ref (ad9 16 0 0), .ref (ad9 17 0 0), .ref (ad9 18 0 0), IV (w.1 14)]) from R_10.at 12 0 0 ⟨hzw, rfl, rfl⟩) rfl dX1_makeRoll_159 ?_
                      refine j_aload_n (pc := 162) dX1_makeRoll_162 rfl ?_
                      refine j2_get fa_X1_58_X1 (show h_154_1 (o) = some (pO 0 [.ref (ad9 1 0 0), .ref (ad9 2 0 0), .ref (ad9 3 0 0), .ref (ad9 4 0 0), .ref (ad9 12 0 0), IV (w.1 0), .ref (ad9 5 0 0), .ref (ad9 6 0 0)]) from R_10.top1 hzw) rfl dX1_makeRoll_163 ?_
                      refine j2_get fa_X1_165_X9 (show h_154_1 (ad9 12 0 0) = some (pO 7 [IV (w.1 15), IV (w.1 16), IV (w.1 17), .ref (ad9 13 0 0), .ref (ad9 14 0 0), .ref (ad9 15 0 0), .ref (ad9 16 0 0), .ref (ad9 17 0 0), .ref (ad9 18 0 0), IV (w.1 14)]) from R_10.at 12 0 0 ⟨hzw, rfl, rfl⟩) rfl dX1_makeRoll_166 ?_
                      refine j_iload_n (pc := 169) dX1_makeRoll_169 rfl ?_
                      refine j2_iald (i := (p : Int)) (show h_154_1 (ad9 14 0 0) = some (pA 0 20 (uA (w.2 20) p x_151_1)) from R_10.at 14 0 0 ⟨hzw, rfl, rfl⟩) (by show 0 ≤ (p : Int) ∧ (p : Int) < ((20 : Nat) : Int); omega) dX1_makeRoll_170 ?_
                      refine j_eqI x_151_1 (uA_self _ _ _).symm ?_
                      refine j_callF (pc := 171) (xm := ⟨"java/util/List", "get", "(I)Ljava/lang/Object;"⟩) (l2_get (show h_154_1 (ad9 16 0 0) = some (pL (rg (w.1 19) (fun q => ad9 19 q 0))) from R_10.at 16 0 0 ⟨hzw, rfl, rfl⟩) (i := x_151_1) (v := ad9 19 (x_151_1).toNat 0) (by omega) (rg_at (by omega) (by omega))) (lw_F q551 q185 q187 q47 q189) hfe.2.2.1 (ci := 2) rfl rfl mdx_yJ2_get (RC.ofL (show h_154_1 (ad9 16 0 0) = some (pL (rg (w.1 19) (fun q => ad9 19 q 0))) from R_10.at 16 0 0 ⟨hzw, rfl, rfl⟩)) (by decide) (by decide) rfl (Nat.le_of_ble_eq_true rfl) dX1_makeRoll_171 (qR.k (fun r_171_1 s_171_1 q_171_1 => ?_))
                      obtain ⟨e1q_171_1, e2q_171_1⟩ := q_171_1
                      subst r_171_1
                      subst s_171_1
                      refine j2_castS (C := RX10) rfl q777 (show h_154_1 (ad9 19 (x_151_1).toNat 0) = some (pO 8 [.ref (ad9 20 (x_151_1).toNat 0), .ref (ad9 21 (x_151_1).toNat 0), va_rf (if w.2 32 (x_151_1).toNat = -1 then none else some (ad9 24 (x_151_1).toNat 0)), IV (w.2 21 (x_151_1).toNat)]) from R_10.at 19 (x_151_1).toNat 0 ⟨hzw, (by show (_ : Int) < w.1 19; omega), rfl⟩) dX1_makeRoll_176 ?_
                      refine j_dup (pc := 179) dX1_makeRoll_179 rfl ?_
                      refine j2_get fa_X1_156_X10 (show h_154_1 (ad9 19 (x_151_1).toNat 0) = some (pO 8 [.ref (ad9 20 (x_151_1).toNat 0), .ref (ad9 21 (x_151_1).toNat 0), va_rf (if w.2 32 (x_151_1).toNat = -1 then none else some (ad9 24 (x_151_1).toNat 0)), IV (w.2 21 (x_151_1).toNat)]) from R_10.at 19 (x_151_1).toNat 0 ⟨hzw, (by show (_ : Int) < w.1 19; omega), rfl⟩) rfl dX1_makeRoll_180 ?_
                      have n_11 : 0 ≤ w.2 21 (x_151_1).toNat ∧ w.2 21 (x_151_1).toNat ≤ 20 := hBw.2 21 ((x_151_1).toNat)
                      refine j_iconst (pc := 183) dX1_makeRoll_183 rfl ?_
                      refine j_iadd (pc := 184) dX1_makeRoll_184 ?_
                      refine j2_put fp_X1_156_X10 (show h_154_1 (ad9 19 (x_151_1).toNat 0) = some (pO 8 [.ref (ad9 20 (x_151_1).toNat 0), .ref (ad9 21 (x_151_1).toNat 0), va_rf (if w.2 32 (x_151_1).toNat = -1 then none else some (ad9 24 (x_151_1).toNat 0)), IV (w.2 21 (x_151_1).toNat)]) from R_10.at 19 (x_151_1).toNat 0 ⟨hzw, (by show (_ : Int) < w.1 19; omega), rfl⟩) (by decide) (Nat.le_of_ble_eq_true rfl) rfl rfl dX1_makeRoll_185 (fun h_185_1 e_185_1 => ?_)
                      have z_12 : h_185_1 (ad9 19 (x_151_1).toNat 0) = some (pO 8 [.ref (ad9 20 (x_151_1).toNat 0), .ref (ad9 21 (x_151_1).toNat 0), va_rf (if w.2 32 (x_151_1).toNat = -1 then none else some (ad9 24 (x_151_1).toNat 0)), IV ((w.2 21 (x_151_1).toNat) + 1)]) := by rw [e_185_1]; exact upH_self _ _ _
                      have R_13 : Rel K h_185_1 o ad9 (setA (setA w 20 p x_151_1) 21 (x_151_1).toNat ((w.2 21 (x_151_1).toNat) + 1)) := R_10.people hzw (by show (_ : Int) < w.1 19; omega) e_185_1
                      refine j_iinc (pc := 188) dX1_makeRoll_188 rfl (by decide) (lo' := [some (.ref o), some (IV ((p : Int) + 1)), some (.ref (ad9 7 p 0)), some (IV (sDwelt u p ((u.1 15) - 7) (u.1 13).toNat)), some (IV (sBest1 w (w.1 19).toNat))]) rfl ?_
                      refine j_goto (pc := 191) (tgt := 43) dX1_makeRoll_191 (by decide) ?_
                      refine j_sub (lo' := [some (.ref o), some (IV ((p : Int) + 1)), none, none, none]) ⟨Or.inr rfl, Or.inr rfl, Or.inl rfl, Or.inl rfl, Or.inl rfl, trivial⟩ ?_
                      exact j_room (by omega) (by omega) (ih_43 (p + 1) h_185_1 (setA (setA w 20 p x_151_1) 21 (x_151_1).toNat ((w.2 21 (x_151_1).toNat) + 1)) (by omega) (by omega) (by show _ = setI (sRollStep (sRollN σ p) p) 14 (σ.1 14); rw [← sRollStep_setI, ← hu]; unfold sRollStep; rw [if_pos ⟨by omega, by omega⟩]; have e9 : sRollF u p = w := hw.symm; rw [e9, hx9]) R_13)
        exact j_room (by omega) (by omega) (hl_43 _ 0 g (setI σ 19 m8) (Nat.lt_succ_self _) (by omega) (by show _ = setI (setI (setI σ 14 2) 19 (σ.1 6)) 14 (σ.1 14); rw [setI_comm (k := 19) (k2 := 14) (by decide), setI_setI, setI_self, show (m8 : Int) = σ.1 6 by omega]) hg)
      · refine j_aload_n (pc := 15) dX1_makeRoll_15 rfl ?_
        refine j2_get fa_X1_58_X1 (show g (o) = some (pO 0 [.ref (ad9 1 0 0), .ref (ad9 2 0 0), .ref (ad9 3 0 0), .ref (ad9 4 0 0), .ref (ad9 12 0 0), IV (σ.1 0), .ref (ad9 5 0 0), .ref (ad9 6 0 0)]) from hg.top1 hz) rfl dX1_makeRoll_16 ?_
        refine j2_get fa_X1_62_X9 (show g (ad9 12 0 0) = some (pO 7 [IV (σ.1 15), IV (σ.1 16), IV (σ.1 17), .ref (ad9 13 0 0), .ref (ad9 14 0 0), .ref (ad9 15 0 0), .ref (ad9 16 0 0), .ref (ad9 17 0 0), .ref (ad9 18 0 0), IV (σ.1 14)]) from hg.at 12 0 0 ⟨hz, rfl, rfl⟩) rfl dX1_makeRoll_19 ?_
        refine j_room (cl' := (((((σ.1 6).toNat - m8) * 4) + 0) - 1) + 1) (sl' := (((((σ.1 6).toNat - m8) * 40) + 0) - 4) + 4) (by omega) (by omega) ?_
        refine j2_new hke.1 (Or.inl (by decide)) fn_X1_67_X10 dX1_makeRoll_22 (fun a_22 h_22 n_22 e_22 => ?_)
        have z_14 : h_22 a_22 = some (pO 8 [.null, .null, .null, IV 0]) := by rw [e_22]; exact upH_self _ _ _
        have fo_a_22 : ∀ k i j, live (setI σ 19 m8) k i j → ad9 k i j ≠ a_22 := fun k i j hl => hg.fresh n_22 hl
        have R_15 : Rel K h_22 o ad9 (setI σ 19 m8) := hg.other (fun b c hb => by rw [e_22]; exact upH_old hb n_22)
        refine j_dup (pc := 25) dX1_makeRoll_25 rfl ?_
        refine j_room (cl' := ((((((σ.1 6).toNat - m8) * 4) + 0) - 1) - 2) + 2) (sl' := ((((((σ.1 6).toNat - m8) * 40) + 0) - 4) - 6) + 6) (by omega) (by omega) ?_
        refine j_callIN (pc := 26) (c_boxInit h_22 hke a_22 z_14) (lw_meth q781) q70 hne.1 q780 rfl md_yX10_init (by decide) (by decide) rfl (Nat.le_of_ble_eq_true rfl) dX1_makeRoll_26 (qV.k (fun s_26 q_26 => ?_))
        obtain ⟨b1_26, b2_26, n1_26, n2_26, d12_26, d1_26, d2_26, zq_26, zb1_26, zb2_26, k_26⟩ := q_26
        have fo_b1 : ∀ k i j, live (setI σ 19 m8) k i j → ad9 k i j ≠ b1_26 := fun k i j hl => R_15.fresh n1_26 hl
        have fo_b2 : ∀ k i j, live (setI σ 19 m8) k i j → ad9 k i j ≠ b2_26 := fun k i j hl => R_15.fresh n2_26 hl
        have Rk26 : Rel K s_26 o ad9 (setI σ 19 m8) := ⟨R_15.1, fun k i j hl => k_26 _ _ (R_15.at k i j hl) (fo_a_22 k i j hl), R_15.2.2⟩
        refine j_room (cl' := (((((((σ.1 6).toNat - m8) * 4) + 0) - 1) - 2) - 1) + 1) (sl' := (((((((σ.1 6).toNat - m8) * 40) + 0) - 4) - 6) - 25) + 25) (by omega) (by omega) ?_
        refine j_callF (pc := 29) (xm := ⟨"java/util/List", "add", "(Ljava/lang/Object;)Z"⟩) (l2_add hke (show s_26 (ad9 16 0 0) = some (pL (rg (m8) (fun q => ad9 19 q 0))) from Rk26.at 16 0 0 ⟨hz, rfl, rfl⟩) hko10 (Or.inl ⟨8, _, zq_26, by decide, rfl⟩) (fun z hz9 => by obtain ⟨i9, h9, rfl⟩ := mem_rg hz9; exact Or.inl ⟨8, _, Rk26.at 19 i9 0 ⟨hz, h9, rfl⟩, by decide, rfl⟩) (by have h9 := rg_len (n := (m8 : Int)) (by omega) (fun s => ad9 19 s 0); omega) 25 (by have h9 := rg_len (n := (m8 : Int)) (by omega) (fun s => ad9 19 s 0); omega)) (lw_F q477 q480 q482 q47 q484) hfe.2.2.2.1 (ci := 2) rfl rfl mdx_yJ2_add (RC.ofL (show s_26 (ad9 16 0 0) = some (pL (rg (m8) (fun q => ad9 19 q 0))) from Rk26.at 16 0 0 ⟨hz, rfl, rfl⟩)) (by decide) (by decide) rfl (Nat.le_of_ble_eq_true rfl) dX1_makeRoll_29 (qI.k (fun r_29 s_29 q_29 => ?_))
        obtain ⟨e1q_29, e2q_29⟩ := q_29
        subst r_29
        obtain ⟨ad1, R1⟩ : ∃ ad1, Rel K s_29 o ad1 (setI (setI σ 19 m8) 19 ((setI σ 19 m8).1 19 + 1)) := ⟨_, Rk26.box hz rfl (hE m8 (by omega) (by omega)) fo_a_22 fo_b1 fo_b2 d1_26 d2_26 d12_26 (by rw [e2q_29, upH_ne (fun z => fo_a_22 16 0 0 ⟨hz, rfl, rfl⟩ z.symm)]; exact zq_26) (by rw [e2q_29, upH_ne (fun z => fo_b1 16 0 0 ⟨hz, rfl, rfl⟩ z.symm)]; exact zb1_26) (by rw [e2q_29, upH_ne (fun z => fo_b2 16 0 0 ⟨hz, rfl, rfl⟩ z.symm)]; exact zb2_26) (by rw [e2q_29]; exact upH_self _ _ _) (fun k9 i j hl hn => by rw [e2q_29, upH_ne (Rk26.ne hl (show live (setI σ 19 m8) 16 0 0 from ⟨hz, rfl, rfl⟩) hn)])⟩
        refine j_pop (pc := 34) dX1_makeRoll_34 rfl ?_
        refine j_iinc (pc := 35) dX1_makeRoll_35 rfl (by decide) (lo' := [some (.ref o), some (IV ((m8 : Int) + 1)), none, none, none]) rfl ?_
        refine j_goto (pc := 38) (tgt := 2) dX1_makeRoll_38 (by decide) ?_
        exact j_room (by omega) (by omega) (ih_2 (m8 + 1) s_29 ad1 (by omega) (by omega) (by have h9 := R1; rw [setI_setI] at h9; exact h9))
  exact j_room (by omega) (by omega) (hl_2 _ 0 h ad (Nat.lt_succ_self _) (by omega) (by rw [show setI σ 19 ((0 : Nat) : Int) = σ by rw [show ((0 : Nat) : Int) = σ.1 19 by omega]; exact setI_self σ 19]; exact hR))

