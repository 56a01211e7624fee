set_option maxRecDepth 100000
/-- the sealed envelope of a person, as an address -/
abbrev sealA (ad : AD) (z : Int) : Option Nat := if z = -1 then none else some (ad 25 z.toNat 0)

theorem fa_X9_29_X9 : FA RX9 29 7 7 := ⟨RX9, TX9, 10, "BallotFoundry$Election", rfl, in_X9, by decide, q728, Or.inl rfl⟩
theorem fa_X9_70_X11 : FA RX9 70 9 0 := ⟨RX11, TX11, 3, "BallotFoundry$Envelope", rfl, in_X11, by decide, q887, Or.inl rfl⟩
theorem fa_X9_74_X11 : FA RX9 74 9 2 := ⟨RX11, TX11, 3, "BallotFoundry$Envelope", rfl, in_X11, by decide, q892, Or.inl rfl⟩
set_option maxHeartbeats 4000000 in
theorem c_sealedOf {Γ : GG} {A : Nat → Prop} {K : KK} {l : Launch} (h : AL2) (hfe : FE Γ) (o : Nat) (ad : AD) (σ : MM) (hR : Rel K h o ad σ) (hB : Bd σ) (hz : σ.1 14 ≠ 0) (h23 : ∀ i : Nat, (i : Int) < σ.1 26 → 0 ≤ σ.2 23 i ∧ σ.2 23 i < σ.1 9) (p : Nat) (hp : (p : Int) < σ.1 9) : Ct Γ A (Rep2 Γ A K) l yX9_sealedOf (ws_ yX9_sealedOf cX9_sealedOf 5 (some (.object "BallotFoundry$Envelope"))) 4 0 0 [.ref (ad 12 0 0), .ref (ad 7 p 0)] h (qN (fun (r : Option Nat) (h' : AL2) => r = sealA ad (sSealed σ p (σ.1 26).toNat) ∧ h' = h)) X0 := by
  refine Ct.ofJ (own := RX9) (nm := "sealedOf") (lo := [some (.ref (ad 12 0 0)), some (.ref (ad 7 p 0)), none, none, none]) pn_X9 rfl rfl (List.forall_mem_cons.mpr ⟨rfl, (List.forall_mem_cons.mpr ⟨rfl, (fun _ h => nomatch h)⟩)⟩) (Nat.le_of_ble_eq_true rfl) rfl ?_
  have hQ : ∀ (r : Option Nat) (h' : AL2), (r = sealA ad (sSealed σ p (σ.1 26).toNat) ∧ h' = h) → (qN (fun (r : Option Nat) (h' : AL2) => r = sealA ad (sSealed σ p (σ.1 26).toNat) ∧ h' = h)) (some (va_rf r)) h' := fun r h' h => ⟨r, rfl, h⟩
  generalize (qN (fun (r : Option Nat) (h' : AL2) => r = sealA ad (sSealed σ p (σ.1 26).toNat) ∧ h' = h)) = QP at hQ ⊢
  have n26 : 0 ≤ σ.1 26 ∧ σ.1 26 ≤ 60 := hB.1 26
  refine j_null (pc := 0) dX9_sealedOf_0 ?_
  refine j_astore_nR (pc := 1) (r := none) dX9_sealedOf_1 (by decide) (lo' := [some (.ref (ad 12 0 0)), some (.ref (ad 7 p 0)), some (.null), none, none]) rfl ?_
  refine j_iconst (pc := 2) dX9_sealedOf_2 rfl ?_
  refine j_istore_n (pc := 3) dX9_sealedOf_3 (by decide) (lo' := [some (.ref (ad 12 0 0)), some (.ref (ad 7 p 0)), some (.null), some (IV 0), none]) rfl ?_
  have hl_4 : ∀ (fu : Nat) (k : Nat) (z : Option Nat), (σ.1 26).toNat - k < fu → (k : Int) ≤ σ.1 26 → z = sealA ad (sSealed σ p k) → J Γ A (Rep2 Γ A K) l RX9 "sealedOf" cX9_sealedOf 5 (some (.object "BallotFoundry$Envelope")) [] 4 0 0 QP X0 0 0 h 4 [some (.ref (ad 12 0 0)), some (.ref (ad 7 p 0)), some (va_rf z), some (IV (k : Int)), none] [] := by
    intro fu
    induction fu with
    | zero => intro k z hm; exact absurd hm (Nat.not_lt_zero _)
    | succ fu ih_4 =>
      intro k z hm hk hz9
      refine j_iload_n (pc := 4) dX9_sealedOf_4 rfl ?_
      refine j_aload_n (pc := 5) dX9_sealedOf_5 rfl ?_
      refine j2_get fa_X9_29_X9 (show h (ad 12 0 0) = some (pO 7 [IV (σ.1 15), IV (σ.1 16), IV (σ.1 17), .ref (ad 13 0 0), .ref (ad 14 0 0), .ref (ad 15 0 0), .ref (ad 16 0 0), .ref (ad 17 0 0), .ref (ad 18 0 0), IV (σ.1 14)]) from hR.at 12 0 0 ⟨hz, rfl, rfl⟩) rfl dX9_sealedOf_6 ?_
      refine j_callF (pc := 9) (xm := ⟨"java/util/List", "size", "()I"⟩) (l2_size (show h (ad 17 0 0) = some (pL (rg (σ.1 26) (fun q => ad 25 q 0))) from hR.at 17 0 0 ⟨hz, rfl, rfl⟩)) (lw_F q643 q159 q161 q47 q163) hfe.1 (ci := 2) rfl rfl mdx_yJ2_size (RC.ofL (show h (ad 17 0 0) = some (pL (rg (σ.1 26) (fun q => ad 25 q 0))) from hR.at 17 0 0 ⟨hz, rfl, rfl⟩)) (by decide) (by decide) rfl (Nat.le_of_ble_eq_true rfl) dX9_sealedOf_9 (qI.k (fun r_9 s_9 q_9 => ?_))
      obtain ⟨e1q_9, e2q_9⟩ := q_9
      subst s_9
      rw [rg_len (by omega)] at e1q_9
      subst r_9
      refine j_icmp_ge (pc := 14) (tgt := 62) dX9_sealedOf_14 (by decide) (by omega) (by omega) (fun c_14 => ?_) (fun c_14 => ?_)
      · refine j_aload_nR (pc := 62) dX9_sealedOf_62 rfl ?_
        refine j_Rret (pc := 63) rfl (by first | exact Or.inl ⟨_, rfl⟩ | exact Or.inr ⟨_, rfl⟩) (hQ _ _ ?_) dX9_sealedOf_63
        exact ⟨by rw [hz9, show k = (σ.1 26).toNat by omega], rfl⟩
      · obtain ⟨x9, hx9⟩ : ∃ x9 : Nat, x9 = (σ.2 23 k).toNat := ⟨_, rfl⟩
        have h8 := h23 k (by omega)
        refine j_aload_n (pc := 17) dX9_sealedOf_17 rfl ?_
        refine j2_get fa_X9_29_X9 (show h (ad 12 0 0) = some (pO 7 [IV (σ.1 15), IV (σ.1 16), IV (σ.1 17), .ref (ad 13 0 0), .ref (ad 14 0 0), .ref (ad 15 0 0), .ref (ad 16 0 0), .ref (ad 17 0 0), .ref (ad 18 0 0), IV (σ.1 14)]) from hR.at 12 0 0 ⟨hz, rfl, rfl⟩) rfl dX9_sealedOf_18 ?_
        refine j_iload_n (pc := 21) dX9_sealedOf_21 rfl ?_
        refine j_callF (pc := 22) (xm := ⟨"java/util/List", "get", "(I)Ljava/lang/Object;"⟩) (l2_get (show h (ad 17 0 0) = some (pL (rg (σ.1 26) (fun q => ad 25 q 0))) from hR.at 17 0 0 ⟨hz, rfl, rfl⟩) (i := (k : Int)) (v := ad 25 k 0) (by omega) (rg_at (by omega) (by omega))) (lw_F q645 q185 q187 q47 q189) hfe.2.2.1 (ci := 2) rfl rfl mdx_yJ2_get (RC.ofL (show h (ad 17 0 0) = some (pL (rg (σ.1 26) (fun q => ad 25 q 0))) from hR.at 17 0 0 ⟨hz, rfl, rfl⟩)) (by decide) (by decide) rfl (Nat.le_of_ble_eq_true rfl) dX9_sealedOf_22 (qR.k (fun r_22 s_22 q_22 => ?_))
        obtain ⟨e1q_22, e2q_22⟩ := q_22
        subst r_22
        subst s_22
        refine j2_castS (C := RX11) rfl q646 (show h (ad 25 k 0) = some (pO 9 [.ref (ad 7 x9 0), IV (σ.2 24 k), IV (σ.2 25 k)]) from by rw [hx9]; exact hR.at 25 k 0 ⟨hz, (by omega), rfl⟩) dX9_sealedOf_27 ?_
        refine j_astore (pc := 30) dX9_sealedOf_30 (by decide) (lo' := [some (.ref (ad 12 0 0)), some (.ref (ad 7 p 0)), some (va_rf z), some (IV (k : Int)), some (.ref (ad 25 k 0))]) rfl ?_
        refine j_aload (pc := 32) dX9_sealedOf_32 rfl ?_
        refine j2_get fa_X9_70_X11 (show h (ad 25 k 0) = some (pO 9 [.ref (ad 7 x9 0), IV (σ.2 24 k), IV (σ.2 25 k)]) from by rw [hx9]; exact hR.at 25 k 0 ⟨hz, (by omega), rfl⟩) rfl dX9_sealedOf_34 ?_
        refine j_aload_n (pc := 37) dX9_sealedOf_37 rfl ?_
        refine j_acmp_ne (pc := 38) (rx := (some (ad 7 x9 0))) (ry := (some (ad 7 p 0))) (tgt := 54) dX9_sealedOf_38 (by decide) (fun c_38 => ?_) (fun c_38 => ?_)
        · have xp : x9 ≠ p := fun e => c_38 (by rw [e])
          refine j_aload_nR (pc := 54) dX9_sealedOf_54 rfl ?_
          refine j_astore_nR (pc := 55) dX9_sealedOf_55 (by decide) (lo' := [some (.ref (ad 12 0 0)), some (.ref (ad 7 p 0)), some (va_rf z), some (IV (k : Int)), some (.ref (ad 25 k 0))]) rfl ?_
          refine j_iinc (pc := 56) dX9_sealedOf_56 rfl (by decide) (lo' := [some (.ref (ad 12 0 0)), some (.ref (ad 7 p 0)), some (va_rf z), some (IV ((k : Int) + 1)), some (.ref (ad 25 k 0))]) rfl ?_
          refine j_goto (pc := 59) (tgt := 4) dX9_sealedOf_59 (by decide) ?_
          refine j_sub (lo' := [some (.ref (ad 12 0 0)), some (.ref (ad 7 p 0)), some (va_rf z), some (IV ((k : Int) + 1)), none]) ⟨Or.inr rfl, Or.inr rfl, Or.inr rfl, Or.inr rfl, Or.inl rfl, trivial⟩ ?_
          exact ih_4 (k + 1) z (by omega) (by omega) (by have e9 : sSealed σ p (k + 1) = sSealed σ p k := (by show (if _ then _ else _) = _; rw [if_neg (by omega)]); rw [e9]; exact hz9)
        · have xp : x9 = p := (hR.2.2 7 x9 0 7 p 0 ⟨by omega, rfl⟩ ⟨hp, rfl⟩ (Option.some.inj c_38)).2.1
          refine j_aload (pc := 41) dX9_sealedOf_41 rfl ?_
          refine j2_get fa_X9_74_X11 (show h (ad 25 k 0) = some (pO 9 [.ref (ad 7 x9 0), IV (σ.2 24 k), IV (σ.2 25 k)]) from by rw [hx9]; exact hR.at 25 k 0 ⟨hz, (by omega), rfl⟩) rfl dX9_sealedOf_43 ?_
          have n_1 : 0 ≤ σ.2 25 k ∧ σ.2 25 k ≤ 2 := hB.2 25 k
          refine j_if_ne (pc := 46) (tgt := 54) dX9_sealedOf_46 (by decide) (by omega) (fun c_46 => ?_) (fun c_46 => ?_)
          · refine j_aload_nR (pc := 54) dX9_sealedOf_54 rfl ?_
            refine j_astore_nR (pc := 55) dX9_sealedOf_55 (by decide) (lo' := [some (.ref (ad 12 0 0)), some (.ref (ad 7 p 0)), some (va_rf z), some (IV (k : Int)), some (.ref (ad 25 k 0))]) rfl ?_
            refine j_iinc (pc := 56) dX9_sealedOf_56 rfl (by decide) (lo' := [some (.ref (ad 12 0 0)), some (.ref (ad 7 p 0)), some (va_rf z), some (IV ((k : Int) + 1)), some (.ref (ad 25 k 0))]) rfl ?_
            refine j_goto (pc := 59) (tgt := 4) dX9_sealedOf_59 (by decide) ?_
            refine j_sub (lo' := [some (.ref (ad 12 0 0)), some (.ref (ad 7 p 0)), some (va_rf z), some (IV ((k : Int) + 1)), none]) ⟨Or.inr rfl, Or.inr rfl, Or.inr rfl, Or.inr rfl, Or.inl rfl, trivial⟩ ?_
            exact ih_4 (k + 1) z (by omega) (by omega) (by have e9 : sSealed σ p (k + 1) = sSealed σ p k := (by show (if _ then _ else _) = _; rw [if_neg (by omega)]); rw [e9]; exact hz9)
          · refine j_aload (pc := 49) dX9_sealedOf_49 rfl ?_
            refine j_goto (pc := 51) (tgt := 55) dX9_sealedOf_51 (by decide) ?_
            refine j_astore_n (pc := 55) dX9_sealedOf_55 (by decide) (lo' := [some (.ref (ad 12 0 0)), some (.ref (ad 7 p 0)), some (.ref (ad 25 k 0)), some (IV (k : Int)), some (.ref (ad 25 k 0))]) rfl ?_
            refine j_iinc (pc := 56) dX9_sealedOf_56 rfl (by decide) (lo' := [some (.ref (ad 12 0 0)), some (.ref (ad 7 p 0)), some (.ref (ad 25 k 0)), some (IV ((k : Int) + 1)), some (.ref (ad 25 k 0))]) rfl ?_
            refine j_goto (pc := 59) (tgt := 4) dX9_sealedOf_59 (by decide) ?_
            refine j_sub (lo' := [some (.ref (ad 12 0 0)), some (.ref (ad 7 p 0)), some (.ref (ad 25 k 0)), some (IV ((k : Int) + 1)), none]) ⟨Or.inr rfl, Or.inr rfl, Or.inr rfl, Or.inr rfl, Or.inl rfl, trivial⟩ ?_
            exact ih_4 (k + 1) (some (ad 25 k 0)) (by omega) (by omega) (by have e9 : sSealed σ p (k + 1) = (k : Int) := (by show (if _ then _ else _) = _; rw [if_pos ⟨by omega, by omega⟩]); show _ = sealA ad (sSealed σ p (k + 1)); rw [e9]; unfold sealA; rw [if_neg (by omega)]; rfl)
  exact hl_4 _ 0 none (Nat.lt_succ_self _) (by omega) rfl

theorem sealA_or (ad : AD) {z : Int} (hz : -1 ≤ z) : (z = -1 ∧ sealA ad z = none) ∨ ∃ j : Nat, z = j ∧ sealA ad z = some (ad 25 j 0) := by
  by_cases e : z = -1
  · exact Or.inl ⟨e, if_pos e⟩
  · exact Or.inr ⟨z.toNat, by omega, if_neg e⟩

theorem md_yX9_sealedOf : MD yX9_sealedOf 1 := by decide +kernel
theorem fp_X9_74_X11 : FP RX9 74 9 2 (.int) false := ⟨RX11, TX11, 3, "BallotFoundry$Envelope", tyX11, rfl, in_X11, by decide, q892, Or.inl rfl, tyX11_ok, nmX11, rfl, rfl, fun h => nomatch h⟩
theorem fa_X9_81_X4 : FA RX9 81 4 0 := ⟨RX4, TX4, 4, "BallotFoundry$Person", rfl, in_X4, by decide, q571, Or.inl rfl⟩
theorem md_yX9_note : MD yX9_note 3 := by decide +kernel
set_option maxHeartbeats 4000000 in
theorem c_voidSealed {Γ : GG} {A : Nat → Prop} {K : KK} {l : Launch} (h : AL2) (hke : KE Γ A K) (hfe : FE Γ) (hko8 : KO Γ RX8) (o : Nat) (ad : AD) (σ : MM) (hR : Rel K h o ad σ) (hB : Bd σ) (hz : σ.1 14 ≠ 0) (h23 : ∀ i : Nat, (i : Int) < σ.1 26 → 0 ≤ σ.2 23 i ∧ σ.2 23 i < σ.1 9) (p : Nat) (hp : (p : Int) < σ.1 9) (t : Int) (ht : t = σ.1 0) (hn5 : σ.1 42 ≤ 250) : Ct Γ A (Rep2 Γ A K) l yX9_voidSealed (ws_ yX9_voidSealed cX9_voidSealed 4 (some .boolean)) 10 2 520 [.ref (ad 12 0 0), .ref (ad 7 p 0), IV t] h (qI (fun (r : Int) (h' : AL2) => r = bI (sSealed σ p (σ.1 26).toNat ≠ -1) ∧ ∃ ad', (∀ k i j, k ≠ 26 → ad' k i j = ad k i j) ∧ Rel K h' o ad' (sVoids σ p))) X0 := by
  refine Ct.ofJ (own := RX9) (nm := "voidSealed") (lo := [some (.ref (ad 12 0 0)), some (.ref (ad 7 p 0)), some (IV t), none]) pn_X9 rfl rfl (List.forall_mem_cons.mpr ⟨rfl, (List.forall_mem_cons.mpr ⟨rfl, (List.forall_mem_cons.mpr ⟨rfl, (fun _ h => nomatch h)⟩)⟩)⟩) (Nat.le_of_ble_eq_true rfl) rfl ?_
  have hQ : ∀ (r : Int) (h' : AL2), (r = bI (sSealed σ p (σ.1 26).toNat ≠ -1) ∧ ∃ ad', (∀ k i j, k ≠ 26 → ad' k i j = ad k i j) ∧ Rel K h' o ad' (sVoids σ p)) → (qI (fun (r : Int) (h' : AL2) => r = bI (sSealed σ p (σ.1 26).toNat ≠ -1) ∧ ∃ ad', (∀ k i j, k ≠ 26 → ad' k i j = ad k i j) ∧ Rel K h' o ad' (sVoids σ p))) (some (IV r)) h' := fun r h' h => ⟨r, rfl, h⟩
  generalize (qI (fun (r : Int) (h' : AL2) => r = bI (sSealed σ p (σ.1 26).toNat ≠ -1) ∧ ∃ ad', (∀ k i j, k ≠ 26 → ad' k i j = ad k i j) ∧ Rel K h' o ad' (sVoids σ p))) = QP at hQ ⊢
  have n26 : 0 ≤ σ.1 26 ∧ σ.1 26 ≤ 60 := hB.1 26
  refine j_aload_n (pc := 0) dX9_voidSealed_0 rfl ?_
  refine j_aload_n (pc := 1) dX9_voidSealed_1 rfl ?_
  refine j_callV (pc := 2) (c_sealedOf h hfe o ad σ hR hB hz h23 p (by omega)) (lw_V q638 q639 q640 q69 q641) rfl md_yX9_sealedOf (RC.of2 (show h (ad 12 0 0) = some (pO 7 [IV (σ.1 15), IV (σ.1 16), IV (σ.1 17), .ref (ad 13 0 0), .ref (ad 14 0 0), .ref (ad 15 0 0), .ref (ad 16 0 0), .ref (ad 17 0 0), .ref (ad 18 0 0), IV (σ.1 14)]) from hR.at 12 0 0 ⟨hz, rfl, rfl⟩) rfl) (by decide) (by decide) rfl (Nat.le_of_ble_eq_true rfl) dX9_voidSealed_2 (qN.k (fun r_2 s_2 q_2 => ?_))
  obtain ⟨e1q_2, e2q_2⟩ := q_2
  subst s_2
  have rsq_2 := sSealed_rng σ p (σ.1 26).toNat
  rcases sealA_or ad (z := sSealed σ p (σ.1 26).toNat) (by omega) with ⟨hj, ej⟩ | ⟨j9, hj, ej⟩
  · rw [ej] at e1q_2
    subst r_2
    refine j_astore_nR (pc := 5) (r := none) dX9_voidSealed_5 (by decide) (lo' := [some (.ref (ad 12 0 0)), some (.ref (ad 7 p 0)), some (IV t), some (.null)]) rfl ?_
    refine j_aload_nR (pc := 6) (r := none) dX9_voidSealed_6 rfl ?_
    refine j_ifnullN (pc := 7) (tgt := 26) dX9_voidSealed_7 (by decide) ?_
    refine j_aload_nR (pc := 26) (r := none) dX9_voidSealed_26 rfl ?_
    refine j_ifnullN (pc := 27) (tgt := 34) dX9_voidSealed_27 (by decide) ?_
    refine j_iconst (pc := 34) dX9_voidSealed_34 rfl ?_
    refine j_zret (pc := 35) rfl (Or.inl rfl) (hQ _ _ ?_) dX9_voidSealed_35
    have hv : sVoids σ p = (if sSealed σ p (σ.1 26).toNat = -1 then σ else sNote (setA σ 25 (sSealed σ p (σ.1 26).toNat).toNat 1) (σ.1 0) 120 p) := rfl
    rw [if_pos hj] at hv
    exact ⟨by rw [bI_f (fun z => z hj)], ad, fun _ _ _ _ => rfl, by rw [hv]; exact hR⟩
  · rw [ej] at e1q_2
    subst r_2
    obtain ⟨x9, hx9⟩ : ∃ x9 : Nat, x9 = (σ.2 23 j9).toNat := ⟨_, rfl⟩
    refine j_astore_n (pc := 5) dX9_voidSealed_5 (by decide) (lo' := [some (.ref (ad 12 0 0)), some (.ref (ad 7 p 0)), some (IV t), some (.ref (ad 25 j9 0))]) rfl ?_
    refine j_aload_n (pc := 6) dX9_voidSealed_6 rfl ?_
    refine j_ifnull (pc := 7) dX9_voidSealed_7 ?_
    refine j_aload_n (pc := 10) dX9_voidSealed_10 rfl ?_
    refine j_iconst (pc := 11) dX9_voidSealed_11 rfl ?_
    refine j2_put fp_X9_74_X11 (show h (ad 25 j9 0) = some (pO 9 [.ref (ad 7 x9 0), IV (σ.2 24 j9), IV (σ.2 25 j9)]) from by rw [hx9]; exact hR.at 25 j9 0 ⟨hz, (by omega), rfl⟩) (by decide) (Nat.le_of_ble_eq_true rfl) rfl rfl dX9_voidSealed_12 (fun h_12 e_12 => ?_)
    have z_1 : h_12 (ad 25 j9 0) = some (pO 9 [.ref (ad 7 x9 0), IV (σ.2 24 j9), IV 1]) := by rw [e_12]; exact upH_self _ _ _
    have R_2 : Rel K h_12 o ad (setA σ 25 j9 1) := hR.env hz (by omega) (by rw [e_12, hx9]; rfl)
    refine j_aload_n (pc := 15) dX9_voidSealed_15 rfl ?_
    refine j_iload_n (pc := 16) dX9_voidSealed_16 rfl ?_
    refine j_bipush (pc := 17) (a := 120) dX9_voidSealed_17 (by decide) ?_
    refine j_aload_n (pc := 19) dX9_voidSealed_19 rfl ?_
    refine j2_get fa_X9_81_X4 (show h_12 (ad 7 p 0) = some (pO 4 [IV ((p : Nat) : Int), IV (σ.2 7 p), .ref (ad 9 p 0), IV (σ.2 8 p)]) from R_2.at 7 p 0 ⟨hp, rfl⟩) rfl dX9_voidSealed_20 ?_
    refine j_room (cl' := 0 + 2) (sl' := 0 + 520) (by omega) (by omega) ?_
    refine j_callV (pc := 23) (c_note h_12 hke hfe hko8 o ad (setA σ 25 j9 1) R_2 (hB.a (by show (0 : Int) ≤ 1 ∧ (1 : Int) ≤ 2; decide)) hz (by show σ.1 42 ≤ 250; omega) t 120 ((p : Nat) : Int) ⟨rfl, rfl⟩) (lw_V q647 q648 q649 q69 q650) rfl md_yX9_note (RC.of2 (show h_12 (ad 12 0 0) = some (pO 7 [IV (σ.1 15), IV (σ.1 16), IV (σ.1 17), .ref (ad 13 0 0), .ref (ad 14 0 0), .ref (ad 15 0 0), .ref (ad 16 0 0), .ref (ad 17 0 0), .ref (ad 18 0 0), IV (σ.1 14)]) from R_2.at 12 0 0 ⟨hz, rfl, rfl⟩) rfl) (by decide) (by decide) rfl (Nat.le_of_ble_eq_true rfl) dX9_voidSealed_23 (qV.k (fun s_23 q_23 => ?_))
    obtain ⟨ad_23, hk_23, R_n23⟩ := q_23
    refine j_aload_n (pc := 26) dX9_voidSealed_26 rfl ?_
    refine j_ifnull (pc := 27) dX9_voidSealed_27 ?_
    refine j_iconst (pc := 30) dX9_voidSealed_30 rfl ?_
    refine j_goto (pc := 31) (tgt := 35) dX9_voidSealed_31 (by decide) ?_
    refine j_zret (pc := 35) rfl (Or.inr rfl) (hQ _ _ ?_) dX9_voidSealed_35
    have hv : sVoids σ p = (if sSealed σ p (σ.1 26).toNat = -1 then σ else sNote (setA σ 25 (sSealed σ p (σ.1 26).toNat).toNat 1) (σ.1 0) 120 p) := rfl
    rw [if_neg (by omega), hj] at hv
    exact ⟨by rw [bI_t (by omega)], ad_23, hk_23, by rw [hv, ← ht]; exact R_n23⟩

theorem fp_X1_120_X4 : FP RX1 120 4 3 (.boolean) false := ⟨RX4, TX4, 4, "BallotFoundry$Person", tyX4, rfl, in_X4, by decide, q576, Or.inl rfl, tyX4_ok, nmX4, rfl, rfl, fun h => nomatch h⟩
set_option maxHeartbeats 4000000 in
theorem c_die0 {Γ : GG} {A : Nat → Prop} {K : KK} {l : Launch} (h : AL2) (hfl : l.stackTraces = false) (hke : KE Γ A K) (hfe : FE Γ) (hIOB : TH5 Γ A "java/lang/IndexOutOfBoundsException") (hIAE : TH5 Γ A "java/lang/IllegalArgumentException") (hISE : TH5 Γ A "java/lang/IllegalStateException") (o : Nat) (ad : AD) (σ : MM) (hR : Rel K h o ad σ) (hB : Bd σ) (p : Int) (hp : RR p) (hko8 : KO Γ RX8) (hI : In σ) (hn5 : σ.1 42 ≤ 250) (hz : σ.1 14 = 0) : Ct Γ A (Rep2 Γ A K) l yX1_die (ws_ yX1_die cX1_die 3 (some .boolean)) 12 8 550 [.ref o, IV p] h (qI (fun (r : Int) (h' : AL2) => t2 (isP σ p) (σ.2 8 p.toNat = 0) = 0 ∧ r = bI (sSealed (setA σ 8 p.toNat 1) p (σ.1 26).toNat ≠ -1) ∧ ∃ ad', Rel K h' o ad' (sVoids (setA σ 8 p.toNat 1) p))) (fun (E : String) (h' : AL2) => xE ["java/lang/IndexOutOfBoundsException", "java/lang/IllegalStateException"] (t2 (isP σ p) (σ.2 8 p.toNat = 0)) E ∧ ∃ ad', Rel K h' o ad' σ) := by
  refine Ct.ofJ (own := RX1) (nm := "die") (lo := [some (.ref o), some (IV p), none]) pn_X1 rfl rfl (List.forall_mem_cons.mpr ⟨rfl, (List.forall_mem_cons.mpr ⟨rfl, (fun _ h => nomatch h)⟩)⟩) (Nat.le_of_ble_eq_true rfl) rfl ?_
  have hQ : ∀ (r : Int) (h' : AL2), (t2 (isP σ p) (σ.2 8 p.toNat = 0) = 0 ∧ r = bI (sSealed (setA σ 8 p.toNat 1) p (σ.1 26).toNat ≠ -1) ∧ ∃ ad', Rel K h' o ad' (sVoids (setA σ 8 p.toNat 1) p)) → (qI (fun (r : Int) (h' : AL2) => t2 (isP σ p) (σ.2 8 p.toNat = 0) = 0 ∧ r = bI (sSealed (setA σ 8 p.toNat 1) p (σ.1 26).toNat ≠ -1) ∧ ∃ ad', Rel K h' o ad' (sVoids (setA σ 8 p.toNat 1) p))) (some (IV r)) h' := fun r h' h => ⟨r, rfl, h⟩
  generalize (qI (fun (r : Int) (h' : AL2) => t2 (isP σ p) (σ.2 8 p.toNat = 0) = 0 ∧ r = bI (sSealed (setA σ 8 p.toNat 1) p (σ.1 26).toNat ≠ -1) ∧ ∃ ad', Rel K h' o ad' (sVoids (setA σ 8 p.toNat 1) p))) = QP at hQ ⊢
  have hX : ∀ (E : String) (h' : AL2), (xE ["java/lang/IndexOutOfBoundsException", "java/lang/IllegalStateException"] (t2 (isP σ p) (σ.2 8 p.toNat = 0)) E ∧ ∃ ad', Rel K h' o ad' σ) → (fun (E : String) (h' : AL2) => xE ["java/lang/IndexOutOfBoundsException", "java/lang/IllegalStateException"] (t2 (isP σ p) (σ.2 8 p.toNat = 0)) E ∧ ∃ ad', Rel K h' o ad' σ) E h' := fun E h' h => h
  generalize (fun (E : String) (h' : AL2) => xE ["java/lang/IndexOutOfBoundsException", "java/lang/IllegalStateException"] (t2 (isP σ p) (σ.2 8 p.toNat = 0)) E ∧ ∃ ad', Rel K h' o ad' σ) = XP at hX ⊢
  have n9 : 0 ≤ σ.1 9 ∧ σ.1 9 ≤ 20 := hB.1 9
  have h23 : ∀ i : Nat, (i : Int) < σ.1 26 → 0 ≤ σ.2 23 i ∧ σ.2 23 i < σ.1 9 := fun i hi => ⟨(hB.2 23 i).1, (hI.2.2.2.2.2.1 i hi).1⟩
  refine j_aload_n (pc := 0) dX1_die_0 rfl ?_
  refine j_iload_n (pc := 1) dX1_die_1 rfl ?_
  refine j_room (cl' := 5 + 3) (sl' := 536 + 14) (by omega) (by omega) ?_
  refine j_callVx (pc := 2) (c_find h hfl hke hfe hIOB o ad σ hR hB p (by omega)) (lw_V q614 q616 qs12 q44 q617) rfl md_yX1_find (RC.of2 (show h (o) = some (pO 0 [.ref (ad 1 0 0), .ref (ad 2 0 0), .ref (ad 3 0 0), .ref (ad 4 0 0), .null, IV (σ.1 0), .ref (ad 5 0 0), .ref (ad 6 0 0)]) from hR.top0 hz) rfl) (nT _) (fun E x9 hx9 => by obtain ⟨rfl, hn9, hR9⟩ := hx9; exact hX _ _ ⟨xE_of 0 (by unfold t2; (repeat' split) <;> omega) rfl, ad, hR9⟩) (by decide) (by decide) rfl (Nat.le_of_ble_eq_true rfl) dX1_die_2 (qR.k (fun r_2 s_2 q_2 => ?_))
  obtain ⟨q_2p, q_2e, q_2R⟩ := q_2
  subst r_2
  refine j_astore_n (pc := 5) dX1_die_5 (by decide) (lo' := [some (.ref o), some (IV p), some (.ref (ad 7 (p).toNat 0))]) rfl ?_
  refine j_aload_n (pc := 6) dX1_die_6 rfl ?_
  refine j2_get fa_X1_120_X4 (show s_2 (ad 7 (p).toNat 0) = some (pO 4 [IV (((p).toNat : Nat) : Int), IV (σ.2 7 (p).toNat), .ref (ad 9 (p).toNat 0), IV (σ.2 8 (p).toNat)]) from q_2R.at 7 (p).toNat 0 ⟨(by omega), rfl⟩) rfl dX1_die_7 ?_
  have n_1 : 0 ≤ σ.2 8 (p).toNat ∧ σ.2 8 (p).toNat ≤ 1 := hB.2 8 ((p).toNat)
  refine j_if_ne (pc := 10) (tgt := 17) dX1_die_10 (by decide) (by omega) (fun c_10 => ?_) (fun c_10 => ?_)
  · refine j_iconst (pc := 17) dX1_die_17 rfl ?_
    refine j_room (cl' := 4 + 1) (sl' := 530 + 6) (by omega) (by omega) ?_
    refine j_callSx (pc := 18) (c_allow s_2 hfl RG.of2 hISE 0 (Or.inl rfl)) (lw_S q443 q444 q44 q445) md_yX1_allow (nT _) (fun E x9 hx9 => by obtain ⟨hn9, rfl, rfl⟩ := hx9; (try have hn8 := bI_0 hn9); exact hX _ _ ⟨xE_of 1 (by unfold t2; (repeat' split) <;> omega) rfl, ad, q_2R⟩) (by decide) (by decide) rfl (Nat.le_of_ble_eq_true rfl) dX1_die_18 (qV.k (fun s_18 q_18 => ?_))
    exact absurd q_18.1 (by decide)
  · refine j_iconst (pc := 13) dX1_die_13 rfl ?_
    refine j_goto (pc := 14) (tgt := 18) dX1_die_14 (by decide) ?_
    refine j_room (cl' := 4 + 1) (sl' := 530 + 6) (by omega) (by omega) ?_
    refine j_callSx (pc := 18) (c_allow s_2 hfl RG.of2 hISE 1 (Or.inr rfl)) (lw_S q443 q444 q44 q445) md_yX1_allow (nT _) (fun E x9 hx9 => by obtain ⟨hn9, rfl, rfl⟩ := hx9; (try have hn8 := bI_0 hn9); exact hX _ _ ⟨xE_of 1 (by unfold t2; (repeat' split) <;> omega) rfl, ad, q_2R⟩) (by decide) (by decide) rfl (Nat.le_of_ble_eq_true rfl) dX1_die_18 (qV.k (fun s_18_1 q_18_1 => ?_))
    obtain ⟨q_18_1b, q_18_1e⟩ := q_18_1
    subst s_18_1
    refine j_aload_n (pc := 21) dX1_die_21 rfl ?_
    refine j_iconst (pc := 22) dX1_die_22 rfl ?_
    refine j2_put fp_X1_120_X4 (show s_2 (ad 7 (p).toNat 0) = some (pO 4 [IV (((p).toNat : Nat) : Int), IV (σ.2 7 (p).toNat), .ref (ad 9 (p).toNat 0), IV (σ.2 8 (p).toNat)]) from q_2R.at 7 (p).toNat 0 ⟨(by omega), rfl⟩) (by decide) (Nat.le_of_ble_eq_true rfl) (nar_Z (Or.inr rfl)) (fit_Z (Or.inr rfl)) dX1_die_23 (fun h_23 e_23 => ?_)
    have z_2 : h_23 (ad 7 (p).toNat 0) = some (pO 4 [IV (((p).toNat : Nat) : Int), IV (σ.2 7 (p).toNat), .ref (ad 9 (p).toNat 0), IV 1]) := by rw [e_23]; exact upH_self _ _ _
    have R_3 : Rel K h_23 o ad (setA σ 8 (p).toNat 1) := q_2R.died (by omega) (by rw [e_23]; rfl)
    refine j_aload_n (pc := 26) dX1_die_26 rfl ?_
    refine j2_get fa_X1_58_X1 (show h_23 (o) = some (pO 0 [.ref (ad 1 0 0), .ref (ad 2 0 0), .ref (ad 3 0 0), .ref (ad 4 0 0), .null, IV (σ.1 0), .ref (ad 5 0 0), .ref (ad 6 0 0)]) from R_3.top0 hz) rfl dX1_die_27 ?_
    refine j_ifnullN (pc := 30) (tgt := 52) dX1_die_30 (by decide) ?_
    refine j_iconst (pc := 52) dX1_die_52 rfl ?_
    refine j_zret (pc := 53) rfl (Or.inl rfl) (hQ _ _ ?_) dX1_die_53
    have s26 : σ.1 26 = 0 := (hI.s1 (by omega)).2.1
    have e9 : sSealed (setA σ 8 p.toNat 1) p (σ.1 26).toNat = -1 := by rw [s26]; rfl
    have ev : sVoids (setA σ 8 p.toNat 1) p = setA σ 8 p.toNat 1 := if_pos e9
    exact ⟨by unfold t2; (repeat' split) <;> omega, by rw [bI_f (fun z => z e9)], ad, by rw [ev]; exact R_3⟩

theorem md_yX9_voidSealed : MD yX9_voidSealed 2 := by decide +kernel
set_option maxHeartbeats 4000000 in
theorem c_die1 {Γ : GG} {A : Nat → Prop} {K : KK} {l : Launch} (h : AL2) (hfl : l.stackTraces = false) (hke : KE Γ A K) (hfe : FE Γ) (hIOB : TH5 Γ A "java/lang/IndexOutOfBoundsException") (hIAE : TH5 Γ A "java/lang/IllegalArgumentException") (hISE : TH5 Γ A "java/lang/IllegalStateException") (o : Nat) (ad : AD) (σ : MM) (hR : Rel K h o ad σ) (hB : Bd σ) (p : Int) (hp : RR p) (hko8 : KO Γ RX8) (hI : In σ) (hn5 : σ.1 42 ≤ 250) (hz : σ.1 14 ≠ 0) : Ct Γ A (Rep2 Γ A K) l yX1_die (ws_ yX1_die cX1_die 3 (some .boolean)) 12 8 550 [.ref o, IV p] h (qI (fun (r : Int) (h' : AL2) => t2 (isP σ p) (σ.2 8 p.toNat = 0) = 0 ∧ r = bI (sSealed (setA σ 8 p.toNat 1) p (σ.1 26).toNat ≠ -1) ∧ ∃ ad', Rel K h' o ad' (sVoids (setA σ 8 p.toNat 1) p))) (fun (E : String) (h' : AL2) => xE ["java/lang/IndexOutOfBoundsException", "java/lang/IllegalStateException"] (t2 (isP σ p) (σ.2 8 p.toNat = 0)) E ∧ ∃ ad', Rel K h' o ad' σ) := by
  refine Ct.ofJ (own := RX1) (nm := "die") (lo := [some (.ref o), some (IV p), none]) pn_X1 rfl rfl (List.forall_mem_cons.mpr ⟨rfl, (List.forall_mem_cons.mpr ⟨rfl, (fun _ h => nomatch h)⟩)⟩) (Nat.le_of_ble_eq_true rfl) rfl ?_
  have hQ : ∀ (r : Int) (h' : AL2), (t2 (isP σ p) (σ.2 8 p.toNat = 0) = 0 ∧ r = bI (sSealed (setA σ 8 p.toNat 1) p (σ.1 26).toNat ≠ -1) ∧ ∃ ad', Rel K h' o ad' (sVoids (setA σ 8 p.toNat 1) p)) → (qI (fun (r : Int) (h' : AL2) => t2 (isP σ p) (σ.2 8 p.toNat = 0) = 0 ∧ r = bI (sSealed (setA σ 8 p.toNat 1) p (σ.1 26).toNat ≠ -1) ∧ ∃ ad', Rel K h' o ad' (sVoids (setA σ 8 p.toNat 1) p))) (some (IV r)) h' := fun r h' h => ⟨r, rfl, h⟩
  generalize (qI (fun (r : Int) (h' : AL2) => t2 (isP σ p) (σ.2 8 p.toNat = 0) = 0 ∧ r = bI (sSealed (setA σ 8 p.toNat 1) p (σ.1 26).toNat ≠ -1) ∧ ∃ ad', Rel K h' o ad' (sVoids (setA σ 8 p.toNat 1) p))) = QP at hQ ⊢
  have hX : ∀ (E : String) (h' : AL2), (xE ["java/lang/IndexOutOfBoundsException", "java/lang/IllegalStateException"] (t2 (isP σ p) (σ.2 8 p.toNat = 0)) E ∧ ∃ ad', Rel K h' o ad' σ) → (fun (E : String) (h' : AL2) => xE ["java/lang/IndexOutOfBoundsException", "java/lang/IllegalStateException"] (t2 (isP σ p) (σ.2 8 p.toNat = 0)) E ∧ ∃ ad', Rel K h' o ad' σ) E h' := fun E h' h => h
  generalize (fun (E : String) (h' : AL2) => xE ["java/lang/IndexOutOfBoundsException", "java/lang/IllegalStateException"] (t2 (isP σ p) (σ.2 8 p.toNat = 0)) E ∧ ∃ ad', Rel K h' o ad' σ) = XP at hX ⊢
  have n9 : 0 ≤ σ.1 9 ∧ σ.1 9 ≤ 20 := hB.1 9
  have h23 : ∀ i : Nat, (i : Int) < σ.1 26 → 0 ≤ σ.2 23 i ∧ σ.2 23 i < σ.1 9 := fun i hi => ⟨(hB.2 23 i).1, (hI.2.2.2.2.2.1 i hi).1⟩
  refine j_aload_n (pc := 0) dX1_die_0 rfl ?_
  refine j_iload_n (pc := 1) dX1_die_1 rfl ?_
  refine j_room (cl' := 5 + 3) (sl' := 536 + 14) (by omega) (by omega) ?_
  refine j_callVx (pc := 2) (c_find h hfl hke hfe hIOB o ad σ hR hB p (by omega)) (lw_V q614 q616 qs12 q44 q617) rfl md_yX1_find (RC.of2 (show h (o) = some (pO 0 [.ref (ad 1 0 0), .ref (ad 2 0 0), .ref (ad 3 0 0), .ref (ad 4 0 0), .ref (ad 12 0 0), IV (σ.1 0), .ref (ad 5 0 0), .ref (ad 6 0 0)]) from hR.top1 hz) rfl) (nT _) (fun E x9 hx9 => by obtain ⟨rfl, hn9, hR9⟩ := hx9; exact hX _ _ ⟨xE_of 0 (by unfold t2; (repeat' split) <;> omega) rfl, ad, hR9⟩) (by decide) (by decide) rfl (Nat.le_of_ble_eq_true rfl) dX1_die_2 (qR.k (fun r_2 s_2 q_2 => ?_))
  obtain ⟨q_2p, q_2e, q_2R⟩ := q_2
  subst r_2
  refine j_astore_n (pc := 5) dX1_die_5 (by decide) (lo' := [some (.ref o), some (IV p), some (.ref (ad 7 (p).toNat 0))]) rfl ?_
  refine j_aload_n (pc := 6) dX1_die_6 rfl ?_
  refine j2_get fa_X1_120_X4 (show s_2 (ad 7 (p).toNat 0) = some (pO 4 [IV (((p).toNat : Nat) : Int), IV (σ.2 7 (p).toNat), .ref (ad 9 (p).toNat 0), IV (σ.2 8 (p).toNat)]) from q_2R.at 7 (p).toNat 0 ⟨(by omega), rfl⟩) rfl dX1_die_7 ?_
  have n_1 : 0 ≤ σ.2 8 (p).toNat ∧ σ.2 8 (p).toNat ≤ 1 := hB.2 8 ((p).toNat)
  refine j_if_ne (pc := 10) (tgt := 17) dX1_die_10 (by decide) (by omega) (fun c_10 => ?_) (fun c_10 => ?_)
  · refine j_iconst (pc := 17) dX1_die_17 rfl ?_
    refine j_room (cl' := 4 + 1) (sl' := 530 + 6) (by omega) (by omega) ?_
    refine j_callSx (pc := 18) (c_allow s_2 hfl RG.of2 hISE 0 (Or.inl rfl)) (lw_S q443 q444 q44 q445) md_yX1_allow (nT _) (fun E x9 hx9 => by obtain ⟨hn9, rfl, rfl⟩ := hx9; (try have hn8 := bI_0 hn9); exact hX _ _ ⟨xE_of 1 (by unfold t2; (repeat' split) <;> omega) rfl, ad, q_2R⟩) (by decide) (by decide) rfl (Nat.le_of_ble_eq_true rfl) dX1_die_18 (qV.k (fun s_18 q_18 => ?_))
    exact absurd q_18.1 (by decide)
  · refine j_iconst (pc := 13) dX1_die_13 rfl ?_
    refine j_goto (pc := 14) (tgt := 18) dX1_die_14 (by decide) ?_
    refine j_room (cl' := 4 + 1) (sl' := 530 + 6) (by omega) (by omega) ?_
    refine j_callSx (pc := 18) (c_allow s_2 hfl RG.of2 hISE 1 (Or.inr rfl)) (lw_S q443 q444 q44 q445) md_yX1_allow (nT _) (fun E x9 hx9 => by obtain ⟨hn9, rfl, rfl⟩ := hx9; (try have hn8 := bI_0 hn9); exact hX _ _ ⟨xE_of 1 (by unfold t2; (repeat' split) <;> omega) rfl, ad, q_2R⟩) (by decide) (by decide) rfl (Nat.le_of_ble_eq_true rfl) dX1_die_18 (qV.k (fun s_18_1 q_18_1 => ?_))
    obtain ⟨q_18_1b, q_18_1e⟩ := q_18_1
    subst s_18_1
    refine j_aload_n (pc := 21) dX1_die_21 rfl ?_
    refine j_iconst (pc := 22) dX1_die_22 rfl ?_
    refine j2_put fp_X1_120_X4 (show s_2 (ad 7 (p).toNat 0) = some (pO 4 [IV (((p).toNat : Nat) : Int), IV (σ.2 7 (p).toNat), .ref (ad 9 (p).toNat 0), IV (σ.2 8 (p).toNat)]) from q_2R.at 7 (p).toNat 0 ⟨(by omega), rfl⟩) (by decide) (Nat.le_of_ble_eq_true rfl) (nar_Z (Or.inr rfl)) (fit_Z (Or.inr rfl)) dX1_die_23 (fun h_23 e_23 => ?_)
    have z_2 : h_23 (ad 7 (p).toNat 0) = some (pO 4 [IV (((p).toNat : Nat) : Int), IV (σ.2 7 (p).toNat), .ref (ad 9 (p).toNat 0), IV 1]) := by rw [e_23]; exact upH_self _ _ _
    have R_3 : Rel K h_23 o ad (setA σ 8 (p).toNat 1) := q_2R.died (by omega) (by rw [e_23]; rfl)
    refine j_aload_n (pc := 26) dX1_die_26 rfl ?_
    refine j2_get fa_X1_58_X1 (show h_23 (o) = some (pO 0 [.ref (ad 1 0 0), .ref (ad 2 0 0), .ref (ad 3 0 0), .ref (ad 4 0 0), .ref (ad 12 0 0), IV (σ.1 0), .ref (ad 5 0 0), .ref (ad 6 0 0)]) from R_3.top1 hz) rfl dX1_die_27 ?_
    refine j_ifnull (pc := 30) dX1_die_30 ?_
    refine j_aload_n (pc := 33) dX1_die_33 rfl ?_
    refine j2_get fa_X1_58_X1 (show h_23 (o) = some (pO 0 [.ref (ad 1 0 0), .ref (ad 2 0 0), .ref (ad 3 0 0), .ref (ad 4 0 0), .ref (ad 12 0 0), IV (σ.1 0), .ref (ad 5 0 0), .ref (ad 6 0 0)]) from R_3.top1 hz) rfl dX1_die_34 ?_
    refine j_aload_n (pc := 37) dX1_die_37 rfl ?_
    refine j_aload_n (pc := 38) dX1_die_38 rfl ?_
    refine j2_get fa_X1_110_X1 (show h_23 (o) = some (pO 0 [.ref (ad 1 0 0), .ref (ad 2 0 0), .ref (ad 3 0 0), .ref (ad 4 0 0), .ref (ad 12 0 0), IV (σ.1 0), .ref (ad 5 0 0), .ref (ad 6 0 0)]) from R_3.top1 hz) rfl dX1_die_39 ?_
    have n_4 : 0 ≤ σ.1 0 ∧ σ.1 0 ≤ 2100 := hB.1 0
    refine j_room (cl' := 2 + 2) (sl' := 10 + 520) (by omega) (by omega) ?_
    refine j_callV (pc := 42) (c_voidSealed h_23 hke hfe hko8 o ad (setA σ 8 (p).toNat 1) R_3 (hB.a (by show (0 : Int) ≤ 1 ∧ (1 : Int) ≤ 1; decide)) hz h23 (p).toNat (by show ((((p).toNat) : Nat) : Int) < σ.1 9; omega) (σ.1 0) rfl (by show σ.1 42 ≤ 250; omega)) (lw_V q634 q635 q636 q69 q637) rfl md_yX9_voidSealed (RC.of2 (show h_23 (ad 12 0 0) = some (pO 7 [IV (σ.1 15), IV (σ.1 16), IV (σ.1 17), .ref (ad 13 0 0), .ref (ad 14 0 0), .ref (ad 15 0 0), .ref (ad 16 0 0), .ref (ad 17 0 0), .ref (ad 18 0 0), IV (σ.1 14)]) from R_3.at 12 0 0 ⟨hz, rfl, rfl⟩) rfl) (by decide) (by decide) rfl (Nat.le_of_ble_eq_true rfl) dX1_die_42 (qI.k (fun r_42 s_42 q_42 => ?_))
    obtain ⟨q_42e, ad_42, hk_42, R_v42⟩ := q_42
    subst r_42
    refine j_ifb_eq (pc := 45) (tgt := 52) dX1_die_45 (by decide) (fun c_45 => ?_) (fun c_45 => ?_)
    · refine j_iconst (pc := 52) dX1_die_52 rfl ?_
      refine j_zret (pc := 53) rfl (Or.inl rfl) (hQ _ _ ?_) dX1_die_53
      exact ⟨by unfold t2; (repeat' split) <;> omega, by symm; refine bI_f ?_; have h8 := c_45; rw [show ((p.toNat : Nat) : Int) = p by omega] at h8; exact h8, ad_42, by have h9 := R_v42; rw [show ((p.toNat : Nat) : Int) = p by omega] at h9; exact h9⟩
    · refine j_iconst (pc := 48) dX1_die_48 rfl ?_
      refine j_goto (pc := 49) (tgt := 53) dX1_die_49 (by decide) ?_
      refine j_zret (pc := 53) rfl (Or.inr rfl) (hQ _ _ ?_) dX1_die_53
      exact ⟨by unfold t2; (repeat' split) <;> omega, by symm; refine bI_t ?_; have h8 := c_45; rw [show ((p.toNat : Nat) : Int) = p by omega] at h8; exact h8, ad_42, by have h9 := R_v42; rw [show ((p.toNat : Nat) : Int) = p by omega] at h9; exact h9⟩

theorem c_die {Γ : GG} {A : Nat → Prop} {K : KK} {l : Launch} (h : AL2) (hfl : l.stackTraces = false) (hke : KE Γ A K) (hfe : FE Γ) (hIOB : TH5 Γ A "java/lang/IndexOutOfBoundsException") (hIAE : TH5 Γ A "java/lang/IllegalArgumentException") (hISE : TH5 Γ A "java/lang/IllegalStateException") (o : Nat) (ad : AD) (σ : MM) (hR : Rel K h o ad σ) (hB : Bd σ) (p : Int) (hp : RR p) (hko8 : KO Γ RX8) (hI : In σ) (hn5 : σ.1 42 ≤ 250) : Ct Γ A (Rep2 Γ A K) l yX1_die (ws_ yX1_die cX1_die 3 (some .boolean)) 12 8 550 [.ref o, IV p] h (qI (fun (r : Int) (h' : AL2) => t2 (isP σ p) (σ.2 8 p.toNat = 0) = 0 ∧ r = bI (sSealed (setA σ 8 p.toNat 1) p (σ.1 26).toNat ≠ -1) ∧ ∃ ad', Rel K h' o ad' (sVoids (setA σ 8 p.toNat 1) p))) (fun (E : String) (h' : AL2) => xE ["java/lang/IndexOutOfBoundsException", "java/lang/IllegalStateException"] (t2 (isP σ p) (σ.2 8 p.toNat = 0)) E ∧ ∃ ad', Rel K h' o ad' σ) := by
  by_cases hz : σ.1 14 = 0
  · exact c_die0 h hfl hke hfe hIOB hIAE hISE o ad σ hR hB p hp hko8 hI hn5 hz
  · exact c_die1 h hfl hke hfe hIOB hIAE hISE o ad σ hR hB p hp hko8 hI hn5 hz

