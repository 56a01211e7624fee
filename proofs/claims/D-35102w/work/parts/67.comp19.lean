set_option maxRecDepth 100000
theorem fa_X13_75_X12 : FA RX13 75 10 1 := ⟨RX12, TX12, 2, "BallotFoundry$Count", rfl, in_X12, by decide, q213, Or.inl rfl⟩
set_option maxHeartbeats 4000000 in
theorem c_hadd {Γ : GG} {A : Nat → Prop} {K : KK} {l : Launch} (h : AL2) (q bv rb r9 : Nat) (w1 w2 : Nat) (mn lt nu c9 : Int) (v f : Nat → Int) (hq : h q = some (pO 11 [.ref bv, .ref w1, .ref w2, IV mn, IV lt, IV nu])) (hv : h bv = some (pA 0 5 v)) (hr : h r9 = some (pO 10 [IV c9, .ref rb])) (hrb : h rb = some (pA 0 6 f)) : Ct Γ A (Rep2 Γ A K) l yX13_add (ws_ yX13_add cX13_add 3 none) 1 0 0 [.ref q, .ref r9] h (qV (fun (h' : AL2) => h' = upH h bv (pA 0 5 (fun p => v p + f p)))) X0 := by
  refine Ct.ofJ (own := RX13) (nm := "add") (lo := [some (.ref q), some (.ref r9), none]) pn_X13 rfl rfl (List.forall_mem_cons.mpr ⟨rfl, (List.forall_mem_cons.mpr ⟨rfl, (fun _ h => nomatch h)⟩)⟩) (Nat.le_of_ble_eq_true rfl) rfl ?_
  have hQ : ∀ (h' : AL2), (h' = upH h bv (pA 0 5 (fun p => v p + f p))) → (qV (fun (h' : AL2) => h' = upH h bv (pA 0 5 (fun p => v p + f p)))) none h' := fun h' h => ⟨rfl, h⟩
  generalize (qV (fun (h' : AL2) => h' = upH h bv (pA 0 5 (fun p => v p + f p)))) = QP at hQ ⊢
  refine j_iconst (pc := 0) dX13_add_0 rfl ?_
  refine j_istore_n (pc := 1) dX13_add_1 (by decide) (lo' := [some (.ref q), some (.ref r9), some (IV 0)]) rfl ?_
  have hl_2 : ∀ (fu : Nat) (k : Nat) (g : AL2) (v2 : Nat → Int), 5 - k < fu → k ≤ 5 → g = upH h bv (pA 0 5 v2) → (∀ j : Nat, j < k → v2 j = v j + f j) → (∀ j : Nat, k ≤ j → v2 j = v j) → J Γ A (Rep2 Γ A K) l RX13 "add" cX13_add 3 none [] 1 0 0 QP X0 0 0 g 2 [some (.ref q), some (.ref r9), some (IV (k : Int))] [] := by
    intro fu
    induction fu with
    | zero => intro k g v2 hm; exact absurd hm (Nat.not_lt_zero _)
    | succ fu ih_2 =>
      intro k g v2 hm hk hg h1 h2
      refine j_iload_n (pc := 2) dX13_add_2 rfl ?_
      refine j_iconst (pc := 3) dX13_add_3 rfl ?_
      refine j_icmp_ge (pc := 4) (tgt := 28) dX13_add_4 (by decide) (by omega) (by decide) (fun c_4 => ?_) (fun c_4 => ?_)
      · have e5 : k = 5 := by omega
        refine j2_ext (f := v2) (f9 := fun p => v p + f p) (by rw [hg]; exact upH_self _ _ _) (fun j hj => h1 j (by omega)) (fun h8 e8 => ?_)
        refine j_vret (pc := 28) rfl (hQ _ ?_) dX13_add_28
        rw [e8, hg, upH_upH]
      · refine j_aload_n (pc := 7) dX13_add_7 rfl ?_
        refine j2_get fa_X13_9_X13 (by rw [hg]; exact upH_d hq (fun z => by have h9 := hq; rw [z, hv] at h9; cases h9)) rfl dX13_add_8 ?_
        refine j_iload_n (pc := 11) dX13_add_11 rfl ?_
        refine j_dup2 (pc := 12) dX13_add_12 rfl rfl ?_
        refine j2_iald (i := (k : Int)) (by rw [hg]; exact upH_self _ _ _) (by show 0 ≤ (k : Int) ∧ (k : Int) < ((5 : Nat) : Int); omega) dX13_add_13 ?_
        refine j_eqI (v2 k) rfl ?_
        refine j_aload_n (pc := 14) dX13_add_14 rfl ?_
        refine j2_get fa_X13_75_X12 (by rw [hg]; exact upH_d hr (fun z => by have h9 := hr; rw [z, hv] at h9; cases h9)) rfl dX13_add_15 ?_
        refine j_iload_n (pc := 18) dX13_add_18 rfl ?_
        refine j2_iald (i := (k : Int)) (by rw [hg]; exact upH_d hrb (fun z => by have h9 := hrb; rw [z, hv] at h9; cases h9)) (by show 0 ≤ (k : Int) ∧ (k : Int) < ((6 : Nat) : Int); omega) dX13_add_19 ?_
        refine j_eqI (f k) rfl ?_
        refine j_iadd (pc := 20) dX13_add_20 ?_
        refine j2_iast (i := (k : Int)) (by rw [hg]; exact upH_self _ _ _) (by show 0 ≤ (k : Int) ∧ (k : Int) < ((5 : Nat) : Int); omega) dX13_add_21 (fun h_21 e_21 => ?_)
        have z_1 : h_21 q = some (pO 11 [.ref bv, .ref w1, .ref w2, IV mn, IV lt, IV nu]) := by rw [e_21]; exact upH_k (by rw [hg]; exact upH_d hq (fun z => by have h9 := hq; rw [z, hv] at h9; cases h9)) (by rw [hg]; exact upH_self _ _ _) (by intro z; cases z)
        have z_2 : h_21 r9 = some (pO 10 [IV c9, .ref rb]) := by rw [e_21]; exact upH_k (by rw [hg]; exact upH_d hr (fun z => by have h9 := hr; rw [z, hv] at h9; cases h9)) (by rw [hg]; exact upH_self _ _ _) (by intro z; cases z)
        have z_3 : h_21 rb = some (pA 0 6 f) := by rw [e_21]; exact upH_k (by rw [hg]; exact upH_d hrb (fun z => by have h9 := hrb; rw [z, hv] at h9; cases h9)) (by rw [hg]; exact upH_self _ _ _) (by intro z; cases z)
        have z_4 : h_21 bv = some (pA 0 5 (uA v2 k ((v2 k) + (f k)))) := by rw [e_21]; exact upH_self _ _ _
        refine j_iinc (pc := 22) dX13_add_22 rfl (by decide) (lo' := [some (.ref q), some (.ref r9), some (IV ((k : Int) + 1))]) rfl ?_
        refine j_goto (pc := 25) (tgt := 2) dX13_add_25 (by decide) ?_
        exact ih_2 (k + 1) h_21 (uA v2 k ((v2 k) + (f k))) (by omega) (by omega) (by rw [e_21, hg, upH_upH]; rfl) (fun j hj => by show uA v2 k (v2 k + f k) j = _; rw [uA_ap]; split; (rename_i e; rw [e, h2 k (Nat.le_refl _)]); exact h1 j (by omega)) (fun j hj => by show uA v2 k (v2 k + f k) j = _; rw [uA_ne (by omega)]; exact h2 j (by omega))
  exact hl_2 _ 0 h v (Nat.lt_succ_self _) (by omega) (upH_same hv).symm (fun j hj => absurd hj (Nat.not_lt_zero _)) (fun _ _ => rfl)

set_option maxHeartbeats 4000000 in
theorem c_hasVotes {Γ : GG} {A : Nat → Prop} {K : KK} {l : Launch} (h : AL2) (q bv w1 w2 : Nat) (mn lt nu : Int) (v : Nat → Int) (hq : h q = some (pO 11 [.ref bv, .ref w1, .ref w2, IV mn, IV lt, IV nu])) (hv : h bv = some (pA 0 5 v)) (hvr : ∀ p : Nat, p < 5 → 0 ≤ v p ∧ v p ≤ 100) : Ct Γ A (Rep2 Γ A K) l yX13_hasVotes (ws_ yX13_hasVotes cX13_hasVotes 3 (some .boolean)) 1 0 0 [.ref q] h (qI (fun (r : Int) (h' : AL2) => r = bI (0 < sumN v 5) ∧ h' = h)) X0 := by
  refine Ct.ofJ (own := RX13) (nm := "hasVotes") (lo := [some (.ref q), none, none]) pn_X13 rfl rfl (List.forall_mem_cons.mpr ⟨rfl, (fun _ h => nomatch h)⟩) (Nat.le_of_ble_eq_true rfl) rfl ?_
  have hQ : ∀ (r : Int) (h' : AL2), (r = bI (0 < sumN v 5) ∧ h' = h) → (qI (fun (r : Int) (h' : AL2) => r = bI (0 < sumN v 5) ∧ h' = h)) (some (IV r)) h' := fun r h' h => ⟨r, rfl, h⟩
  generalize (qI (fun (r : Int) (h' : AL2) => r = bI (0 < sumN v 5) ∧ h' = h)) = QP at hQ ⊢
  refine j_iconst (pc := 0) dX13_hasVotes_0 rfl ?_
  refine j_istore_n (pc := 1) dX13_hasVotes_1 (by decide) (lo' := [some (.ref q), some (IV 0), none]) rfl ?_
  refine j_iconst (pc := 2) dX13_hasVotes_2 rfl ?_
  refine j_istore_n (pc := 3) dX13_hasVotes_3 (by decide) (lo' := [some (.ref q), some (IV 0), some (IV 0)]) rfl ?_
  have hl_4 : ∀ (fu : Nat) (k : Nat) (z : Int), 5 - k < fu → k ≤ 5 → z = sumN v k ∧ 0 ≤ z ∧ z ≤ 100 * k → J Γ A (Rep2 Γ A K) l RX13 "hasVotes" cX13_hasVotes 3 (some .boolean) [] 1 0 0 QP X0 0 0 h 4 [some (.ref q), some (IV z), some (IV (k : Int))] [] := by
    intro fu
    induction fu with
    | zero => intro k z hm; exact absurd hm (Nat.not_lt_zero _)
    | succ fu ih_4 =>
      intro k z hm hk hzz
      refine j_iload_n (pc := 4) dX13_hasVotes_4 rfl ?_
      refine j_iconst (pc := 5) dX13_hasVotes_5 rfl ?_
      refine j_icmp_ge (pc := 6) (tgt := 24) dX13_hasVotes_6 (by decide) (by omega) (by decide) (fun c_6 => ?_) (fun c_6 => ?_)
      · refine j_iload_n (pc := 24) dX13_hasVotes_24 rfl ?_
        refine j_if_le (pc := 25) (tgt := 32) dX13_hasVotes_25 (by decide) (by omega) (fun c_25 => ?_) (fun c_25 => ?_)
        · refine j_iconst (pc := 32) dX13_hasVotes_32 rfl ?_
          refine j_zret (pc := 33) rfl (Or.inl rfl) (hQ _ _ ?_) dX13_hasVotes_33
          have e5 : k = 5 := by omega
          rw [e5] at hzz
          exact ⟨by rw [← hzz.1]; unfold bI; split <;> omega, rfl⟩
        · refine j_iconst (pc := 28) dX13_hasVotes_28 rfl ?_
          refine j_goto (pc := 29) (tgt := 33) dX13_hasVotes_29 (by decide) ?_
          refine j_zret (pc := 33) rfl (Or.inr rfl) (hQ _ _ ?_) dX13_hasVotes_33
          have e5 : k = 5 := by omega
          rw [e5] at hzz
          exact ⟨by rw [← hzz.1]; unfold bI; split <;> omega, rfl⟩
      · refine j_iload_n (pc := 9) dX13_hasVotes_9 rfl ?_
        refine j_aload_n (pc := 10) dX13_hasVotes_10 rfl ?_
        refine j2_get fa_X13_9_X13 hq rfl dX13_hasVotes_11 ?_
        refine j_iload_n (pc := 14) dX13_hasVotes_14 rfl ?_
        refine j2_iald (i := (k : Int)) hv (by show 0 ≤ (k : Int) ∧ (k : Int) < ((5 : Nat) : Int); omega) dX13_hasVotes_15 ?_
        refine j_eqI (v k) rfl ?_
        refine j_iadd (pc := 16) dX13_hasVotes_16 ?_
        refine j_istore_n (pc := 17) dX13_hasVotes_17 (by decide) (lo' := [some (.ref q), some (IV (z + (v k))), some (IV (k : Int))]) rfl ?_
        refine j_iinc (pc := 18) dX13_hasVotes_18 rfl (by decide) (lo' := [some (.ref q), some (IV (z + (v k))), some (IV ((k : Int) + 1))]) rfl ?_
        refine j_goto (pc := 21) (tgt := 4) dX13_hasVotes_21 (by decide) ?_
        exact ih_4 (k + 1) (z + (v k)) (by omega) (by omega) (by have h9 := hvr k (by omega); exact ⟨by show _ = sumN v k + v k; rw [← hzz.1], by omega, by omega⟩)
  exact hl_4 _ 0 0 (Nat.lt_succ_self _) (by omega) ⟨rfl, by omega, by omega⟩

theorem hOK_N {σ : MM} (hB : Bd σ) (b : Int) {n : Nat} (hn : n ≤ 30) : hOK (sVo σ b) (hN (sVo σ b) (σ.1 17) (sumN (σ.2 18) 5) n).1 := fun p hp => by
  have h5 := hN_rng (sVo σ b) (σ.1 17) (l := sumN (σ.2 18) 5) (by have := seeds_rng hB; omega) n
  have h6 := sumN_at h5.1 (j := p) 5 hp
  exact ⟨sVo_rng hB b p, h5.1 p, by have := h5.2.1; omega⟩
theorem sum5 (f : Nat → Int) : sumN f 5 = f 0 + f 1 + f 2 + f 3 + f 4 := by simp only [sumN]; omega

theorem fp_X13_9_X13 : FP RX13 9 11 0 (.array .int) true := ⟨RX13, TX13, 6, "BallotFoundry$House", tyX13, rfl, in_X13, by decide, q257, Or.inl rfl, tyX13_ok, nmX13, rfl, rfl, fun _ => rfl⟩
theorem fp_X13_15_X13 : FP RX13 15 11 1 (.array .int) true := ⟨RX13, TX13, 6, "BallotFoundry$House", tyX13, rfl, in_X13, by decide, q259, Or.inl rfl, tyX13_ok, nmX13, rfl, rfl, fun _ => rfl⟩
theorem fp_X13_18_X13 : FP RX13 18 11 2 (.array .int) true := ⟨RX13, TX13, 6, "BallotFoundry$House", tyX13, rfl, in_X13, by decide, q261, Or.inl rfl, tyX13_ok, nmX13, rfl, rfl, fun _ => rfl⟩
theorem fa_X13_30_X9 : FA RX13 30 7 6 := ⟨RX9, TX9, 10, "BallotFoundry$Election", rfl, in_X9, by decide, q726, Or.inl rfl⟩
theorem fa_X13_58_X9 : FA RX13 58 7 1 := ⟨RX9, TX9, 10, "BallotFoundry$Election", rfl, in_X9, by decide, q715, Or.inl rfl⟩
theorem md_yX13_hasVotes : MD yX13_hasVotes 0 := by decide +kernel
theorem fa_X13_64_X9 : FA RX13 64 7 2 := ⟨RX9, TX9, 10, "BallotFoundry$Election", rfl, in_X9, by decide, q717, Or.inl rfl⟩
theorem md_yX13_next : MD yX13_next 1 := by decide +kernel
theorem fa_X13_18_X13 : FA RX13 18 11 2 := ⟨RX13, TX13, 6, "BallotFoundry$House", rfl, in_X13, by decide, q261, Or.inl rfl⟩
theorem fa_X13_72_X13 : FA RX13 72 11 3 := ⟨RX13, TX13, 6, "BallotFoundry$House", rfl, in_X13, by decide, q263, Or.inl rfl⟩
theorem fp_X13_72_X13 : FP RX13 72 11 3 (.int) false := ⟨RX13, TX13, 6, "BallotFoundry$House", tyX13, rfl, in_X13, by decide, q263, Or.inl rfl, tyX13_ok, nmX13, rfl, rfl, fun h => nomatch h⟩
theorem fa_X13_50_X10 : FA RX13 50 8 2 := ⟨RX10, TX10, 4, "BallotFoundry$Box", rfl, in_X10, by decide, q790, Or.inl rfl⟩
theorem md_yX13_add : MD yX13_add 1 := by decide +kernel
theorem fa_X13_25_X9 : FA RX13 25 7 3 := ⟨RX9, TX9, 10, "BallotFoundry$Election", rfl, in_X9, by decide, q719, Or.inl rfl⟩
set_option maxHeartbeats 4000000 in
theorem c_house0 {Γ : GG} {A : Nat → Prop} {K : KK} {l : Launch} (h : AL2) (hke : KE Γ A K) (hfe : FE Γ) (hbe : BE Γ A K) (hse : SE Γ A K) (hne : NE Γ) (o : Nat) (ad : AD) (σ : MM) (hR : Rel K h o ad σ) (hB : Bd σ) (hz : σ.1 14 ≠ 0) (q : Nat) (fo_q : ∀ k i j, live σ k i j → ad k i j ≠ q) (hq : h q = some (pO 11 [.null, .null, .null, IV 0, IV 0, IV 0])) (hset : ∀ k : Nat, (k : Int) < σ.1 19 → σ.2 32 k ≠ -1) : Ct Γ A (Rep2 Γ A K) l yX13_init (ws_ yX13_init cX13_init 5 none) 7 16 100 [.ref q, .ref (ad 12 0 0), IV 0] h (qV (fun (h' : AL2) => Rel K h' o ad σ ∧ ∃ bv bs bg, h' q = some (pO 11 [.ref bv, .ref bs, .ref bg, IV (sHn σ 0), IV ((sHo σ 0).2.2.1), IV ((sHo σ 0).2.2.2)]) ∧ h' bv = some (pA 0 5 (sVo σ 0)) ∧ h' bs = some (pA 0 5 (sHo σ 0).1) ∧ h' bg = some (pA 0 30 (sHo σ 0).2.1))) X0 := by
  refine Ct.ofJ (own := RX13) (nm := "<init>") (lo := [some (.ref q), some (.ref (ad 12 0 0)), some (IV 0), none, none]) pn_X13 rfl rfl (List.forall_mem_cons.mpr ⟨rfl, (List.forall_mem_cons.mpr ⟨rfl, (List.forall_mem_cons.mpr ⟨rfl, (fun _ h => nomatch h)⟩)⟩)⟩) (Nat.le_of_ble_eq_true rfl) rfl ?_
  have hQ : ∀ (h' : AL2), (Rel K h' o ad σ ∧ ∃ bv bs bg, h' q = some (pO 11 [.ref bv, .ref bs, .ref bg, IV (sHn σ 0), IV ((sHo σ 0).2.2.1), IV ((sHo σ 0).2.2.2)]) ∧ h' bv = some (pA 0 5 (sVo σ 0)) ∧ h' bs = some (pA 0 5 (sHo σ 0).1) ∧ h' bg = some (pA 0 30 (sHo σ 0).2.1)) → (qV (fun (h' : AL2) => Rel K h' o ad σ ∧ ∃ bv bs bg, h' q = some (pO 11 [.ref bv, .ref bs, .ref bg, IV (sHn σ 0), IV ((sHo σ 0).2.2.1), IV ((sHo σ 0).2.2.2)]) ∧ h' bv = some (pA 0 5 (sVo σ 0)) ∧ h' bs = some (pA 0 5 (sHo σ 0).1) ∧ h' bg = some (pA 0 30 (sHo σ 0).2.1))) none h' := fun h' h => ⟨rfl, h⟩
  generalize (qV (fun (h' : AL2) => Rel K h' o ad σ ∧ ∃ bv bs bg, h' q = some (pO 11 [.ref bv, .ref bs, .ref bg, IV (sHn σ 0), IV ((sHo σ 0).2.2.1), IV ((sHo σ 0).2.2.2)]) ∧ h' bv = some (pA 0 5 (sVo σ 0)) ∧ h' bs = some (pA 0 5 (sHo σ 0).1) ∧ h' bg = some (pA 0 30 (sHo σ 0).2.1))) = QP at hQ ⊢
  have n19 : 0 ≤ σ.1 19 ∧ σ.1 19 ≤ 5 := hB.1 19
  have n16 : 0 ≤ σ.1 16 ∧ σ.1 16 ≤ 30 := hB.1 16
  have n17 : 0 ≤ σ.1 17 ∧ σ.1 17 ≤ 1 := hB.1 17
  have ho : σ.1 17 = 0 ∨ σ.1 17 = 1 := by omega
  refine j_aload_n (pc := 0) dX13_init_0 rfl ?_
  refine j_objInit (pc := 1) q178 q87 q88 (by decide) (Nat.le_of_ble_eq_true rfl) dX13_init_1 ?_
  refine j_aload_n (pc := 4) dX13_init_4 rfl ?_
  refine j_iconst (pc := 5) dX13_init_5 rfl ?_
  refine j_room (cl' := 15 + 1) (sl' := 95 + 5) (by omega) (by omega) ?_
  refine j2_newa (i := 5) (N := 5) (atype := .int) hke.1 (Or.inl ⟨rfl, rfl⟩) q141 (by omega) (by omega) (by omega) dX13_init_6 (fun a_6 h_6 n_6 e_6 => ?_)
  have z_1 : h_6 q = some (pO 11 [.null, .null, .null, IV 0, IV 0, IV 0]) := by rw [e_6]; exact upH_old hq n_6
  have ne_2 : q ≠ a_6 := fresh_ne hq n_6
  have z_3 : h_6 a_6 = some (pA 0 5 (fun _ => 0)) := by rw [e_6]; exact upH_self _ _ _
  have fo_a_6 : ∀ k i j, live σ k i j → ad k i j ≠ a_6 := fun k i j hl => hR.fresh n_6 hl
  have R_4 : Rel K h_6 o ad σ := hR.other (fun b c hb => by rw [e_6]; exact upH_old hb n_6)
  refine j2_putF rfl fp_X13_9_X13 z_1 (by decide) (Nat.le_of_ble_eq_true rfl) rfl rfl dX13_init_8 (fun h_8 e_8 => ?_)
  have z_5 : h_8 a_6 = some (pA 0 5 (fun _ => 0)) := by rw [e_8]; exact upH_d z_3 (Ne.symm ne_2)
  have z_6 : h_8 q = some (pO 11 [.ref a_6, .null, .null, IV 0, IV 0, IV 0]) := by rw [e_8]; exact upH_self _ _ _
  have R_7 : Rel K h_8 o ad σ := R_4.off e_8 fo_q
  refine j_aload_n (pc := 11) dX13_init_11 rfl ?_
  refine j_iconst (pc := 12) dX13_init_12 rfl ?_
  refine j_room (cl' := 14 + 1) (sl' := 90 + 5) (by omega) (by omega) ?_
  refine j2_newa (i := 5) (N := 5) (atype := .int) hke.1 (Or.inl ⟨rfl, rfl⟩) q141 (by omega) (by omega) (by omega) dX13_init_13 (fun a_13 h_13 n_13 e_13 => ?_)
  have z_8 : h_13 a_6 = some (pA 0 5 (fun _ => 0)) := by rw [e_13]; exact upH_old z_5 n_13
  have ne_9 : a_6 ≠ a_13 := fresh_ne z_5 n_13
  have z_10 : h_13 q = some (pO 11 [.ref a_6, .null, .null, IV 0, IV 0, IV 0]) := by rw [e_13]; exact upH_old z_6 n_13
  have ne_11 : q ≠ a_13 := fresh_ne z_6 n_13
  have z_12 : h_13 a_13 = some (pA 0 5 (fun _ => 0)) := by rw [e_13]; exact upH_self _ _ _
  have fo_a_13 : ∀ k i j, live σ k i j → ad k i j ≠ a_13 := fun k i j hl => R_7.fresh n_13 hl
  have R_13 : Rel K h_13 o ad σ := R_7.other (fun b c hb => by rw [e_13]; exact upH_old hb n_13)
  refine j2_putF rfl fp_X13_15_X13 z_10 (by decide) (Nat.le_of_ble_eq_true rfl) rfl rfl dX13_init_15 (fun h_15 e_15 => ?_)
  have z_14 : h_15 a_6 = some (pA 0 5 (fun _ => 0)) := by rw [e_15]; exact upH_d z_8 (Ne.symm ne_2)
  have z_15 : h_15 a_13 = some (pA 0 5 (fun _ => 0)) := by rw [e_15]; exact upH_d z_12 (Ne.symm ne_11)
  have z_16 : h_15 q = some (pO 11 [.ref a_6, .ref a_13, .null, IV 0, IV 0, IV 0]) := by rw [e_15]; exact upH_self _ _ _
  have R_17 : Rel K h_15 o ad σ := R_13.off e_15 fo_q
  refine j_aload_n (pc := 18) dX13_init_18 rfl ?_
  refine j_bipush (pc := 19) (a := 30) dX13_init_19 (by decide) ?_
  refine j_room (cl' := 13 + 1) (sl' := 60 + 30) (by omega) (by omega) ?_
  refine j2_newa (i := 30) (N := 30) (atype := .int) hke.1 (Or.inl ⟨rfl, rfl⟩) q141 (by omega) (by omega) (by omega) dX13_init_21 (fun a_21 h_21 n_21 e_21 => ?_)
  have z_18 : h_21 a_6 = some (pA 0 5 (fun _ => 0)) := by rw [e_21]; exact upH_old z_14 n_21
  have ne_19 : a_6 ≠ a_21 := fresh_ne z_14 n_21
  have z_20 : h_21 a_13 = some (pA 0 5 (fun _ => 0)) := by rw [e_21]; exact upH_old z_15 n_21
  have ne_21 : a_13 ≠ a_21 := fresh_ne z_15 n_21
  have z_22 : h_21 q = some (pO 11 [.ref a_6, .ref a_13, .null, IV 0, IV 0, IV 0]) := by rw [e_21]; exact upH_old z_16 n_21
  have ne_23 : q ≠ a_21 := fresh_ne z_16 n_21
  have z_24 : h_21 a_21 = some (pA 0 30 (fun _ => 0)) := by rw [e_21]; exact upH_self _ _ _
  have fo_a_21 : ∀ k i j, live σ k i j → ad k i j ≠ a_21 := fun k i j hl => R_17.fresh n_21 hl
  have R_25 : Rel K h_21 o ad σ := R_17.other (fun b c hb => by rw [e_21]; exact upH_old hb n_21)
  refine j2_putF rfl fp_X13_18_X13 z_22 (by decide) (Nat.le_of_ble_eq_true rfl) rfl rfl dX13_init_23 (fun h_23 e_23 => ?_)
  have z_26 : h_23 a_6 = some (pA 0 5 (fun _ => 0)) := by rw [e_23]; exact upH_d z_18 (Ne.symm ne_2)
  have z_27 : h_23 a_13 = some (pA 0 5 (fun _ => 0)) := by rw [e_23]; exact upH_d z_20 (Ne.symm ne_11)
  have z_28 : h_23 a_21 = some (pA 0 30 (fun _ => 0)) := by rw [e_23]; exact upH_d z_24 (Ne.symm ne_23)
  have z_29 : h_23 q = some (pO 11 [.ref a_6, .ref a_13, .ref a_21, IV 0, IV 0, IV 0]) := by rw [e_23]; exact upH_self _ _ _
  have R_30 : Rel K h_23 o ad σ := R_25.off e_23 fo_q
  refine j_iconst (pc := 26) dX13_init_26 rfl ?_
  refine j_istore_n (pc := 27) dX13_init_27 (by decide) (lo' := [some (.ref q), some (.ref (ad 12 0 0)), some (IV 0), some (IV 0), none]) rfl ?_
  have hl_28 : ∀ (fu : Nat) (k : Nat) (g : AL2), 5 - k < fu → k ≤ 5 → Rel K g o ad σ → g q = some (pO 11 [.ref a_6, .ref a_13, .ref a_21, IV 0, IV 0, IV (sumN (σ.2 18) k)]) → g a_6 = some (pA 0 5 (fun _ => 0)) → g a_13 = some (pA 0 5 (fun _ => 0)) → g a_21 = some (pA 0 30 (fun _ => 0)) → J Γ A (Rep2 Γ A K) l RX13 "<init>" cX13_init 5 none [] 7 16 100 QP X0 12 50 g 28 [some (.ref q), some (.ref (ad 12 0 0)), some (IV 0), some (IV (k : Int)), none] [] := by
    intro fu
    induction fu with
    | zero => intro k g hm; exact absurd hm (Nat.not_lt_zero _)
    | succ fu ih_28 =>
      intro k g hm hk hg gq gv gs gb
      refine j_iload_n (pc := 28) dX13_init_28 rfl ?_
      refine j_iconst (pc := 29) dX13_init_29 rfl ?_
      refine j_icmp_ge (pc := 30) (tgt := 54) dX13_init_30 (by decide) (by omega) (by decide) (fun c_30 => ?_) (fun c_30 => ?_)
      · have e5 : k = 5 := by omega
        refine j_iconst (pc := 54) dX13_init_54 rfl ?_
        refine j_istore_n (pc := 55) dX13_init_55 (by decide) (lo' := [some (.ref q), some (.ref (ad 12 0 0)), some (IV 0), some (IV 0), none]) rfl ?_
        have hl_56 : ∀ (fu : Nat) (k : Nat) (g : AL2) (vf : Nat → Int) (b9 : Nat) (c9 : Nat), 5 - k < fu → (k : Int) ≤ σ.1 19 → 2 * (5 - k) ≤ b9 ∧ 10 * (5 - k) ≤ c9 → Rel K g o ad σ → g q = some (pO 11 [.ref a_6, .ref a_13, .ref a_21, IV 0, IV 0, IV (sumN (σ.2 18) 5)]) → g a_6 = some (pA 0 5 vf) → g a_13 = some (pA 0 5 (fun _ => 0)) → g a_21 = some (pA 0 30 (fun _ => 0)) → (∀ p : Nat, p < 5 → vf p = sVoN σ 0 p k) → J Γ A (Rep2 Γ A K) l RX13 "<init>" cX13_init 5 none [] 7 16 100 QP X0 b9 c9 g 56 [some (.ref q), some (.ref (ad 12 0 0)), some (IV 0), some (IV (k : Int)), none] [] := by
          intro fu
          induction fu with
          | zero => intro k g vf b9 c9 hm; exact absurd hm (Nat.not_lt_zero _)
          | succ fu ih_56 =>
            intro k g vf b9 c9 hm hk hbc hg gq gv gs gb hv9
            refine j_iload_n (pc := 56) dX13_init_56 rfl ?_
            refine j_aload_n (pc := 57) dX13_init_57 rfl ?_
            refine j2_get fa_X13_30_X9 (show g (ad 12 0 0) = some (pO 7 [IV (σ.1 15), IV (σ.1 16), IV (σ.1 17), .ref (ad 13 0 0), .ref (ad 14 0 0), .ref (ad 15 0 0), .ref (ad 16 0 0), .ref (ad 17 0 0), .ref (ad 18 0 0), IV (σ.1 14)]) from hg.at 12 0 0 ⟨hz, rfl, rfl⟩) rfl dX13_init_58 ?_
            refine j_callF (pc := 61) (xm := ⟨"java/util/List", "size", "()I"⟩) (l2_size (show g (ad 16 0 0) = some (pL (rg (σ.1 19) (fun q => ad 19 q 0))) from hg.at 16 0 0 ⟨hz, rfl, rfl⟩)) (lw_F q180 q159 q161 q47 q163) hfe.1 (ci := 2) rfl rfl mdx_yJ2_size (RC.ofL (show g (ad 16 0 0) = some (pL (rg (σ.1 19) (fun q => ad 19 q 0))) from hg.at 16 0 0 ⟨hz, rfl, rfl⟩)) (by decide) (by decide) rfl (Nat.le_of_ble_eq_true rfl) dX13_init_61 (qI.k (fun r_61 s_61 q_61 => ?_))
            obtain ⟨e1q_61, e2q_61⟩ := q_61
            subst s_61
            rw [rg_len (by omega)] at e1q_61
            subst r_61
            refine j_icmp_ge (pc := 66) (tgt := 113) dX13_init_66 (by decide) (by omega) (by omega) (fun c_66 => ?_) (fun c_66 => ?_)
            · have ek : k = (σ.1 19).toNat := by omega
              refine j2_ext (f := vf) (f9 := sVo σ 0) gv (fun p hp => by rw [hv9 p hp, ek]; rfl) (fun hx_31 ex_31 => ?_)
              have z_32 : hx_31 q = some (pO 11 [.ref a_6, .ref a_13, .ref a_21, IV 0, IV 0, IV (sumN (σ.2 18) 5)]) := by rw [ex_31]; exact upH_d gq ne_2
              have z_33 : hx_31 a_13 = some (pA 0 5 (fun _ => 0)) := by rw [ex_31]; exact upH_d gs (Ne.symm ne_9)
              have z_34 : hx_31 a_21 = some (pA 0 30 (fun _ => 0)) := by rw [ex_31]; exact upH_d gb (Ne.symm ne_19)
              have z_35 : hx_31 a_6 = some (pA 0 5 (sVo σ 0)) := by rw [ex_31]; exact upH_self _ _ _
              have R_36 : Rel K hx_31 o ad σ := hg.off ex_31 fo_a_6
              refine j_iconst (pc := 113) dX13_init_113 rfl ?_
              refine j_istore_n (pc := 114) dX13_init_114 (by decide) (lo' := [some (.ref q), some (.ref (ad 12 0 0)), some (IV 0), some (IV 0), none]) rfl ?_
              have hl_115 : ∀ (fu : Nat) (n : Nat) (g : AL2) (H : HS), (σ.1 16).toNat - n < fu → (n : Int) ≤ σ.1 16 → H = hN (sVo σ 0) (σ.1 17) (sumN (σ.2 18) 5) n → n = 0 ∨ 0 < sumN (sVo σ 0) 5 → Rel K g o ad σ → g q = some (pO 11 [.ref a_6, .ref a_13, .ref a_21, IV (n : Int), IV H.2.2.1, IV H.2.2.2]) → g a_6 = some (pA 0 5 (sVo σ 0)) → g a_13 = some (pA 0 5 H.1) → g a_21 = some (pA 0 30 H.2.1) → J Γ A (Rep2 Γ A K) l RX13 "<init>" cX13_init 5 none [] 7 16 100 QP X0 0 0 g 115 [some (.ref q), some (.ref (ad 12 0 0)), some (IV 0), some (IV (n : Int)), none] [] := by
                intro fu
                induction fu with
                | zero => intro n g H hm; exact absurd hm (Nat.not_lt_zero _)
                | succ fu ih_115 =>
                  intro n g H hm hn hH hsn hg gq gv gs gb
                  have hok : hOK (sVo σ 0) H.1 := by rw [hH]; exact hOK_N hB 0 (by omega)
                  have hrn := hN_rng (sVo σ 0) (σ.1 17) (l := sumN (σ.2 18) 5) (by have := seeds_rng hB; omega) n
                  rw [← hH] at hrn
                  have hnu9 := hrn.2.2.2.1
                  refine j_iload_n (pc := 115) dX13_init_115 rfl ?_
                  refine j_aload_n (pc := 116) dX13_init_116 rfl ?_
                  refine j2_get fa_X13_58_X9 (show g (ad 12 0 0) = some (pO 7 [IV (σ.1 15), IV (σ.1 16), IV (σ.1 17), .ref (ad 13 0 0), .ref (ad 14 0 0), .ref (ad 15 0 0), .ref (ad 16 0 0), .ref (ad 17 0 0), .ref (ad 18 0 0), IV (σ.1 14)]) from hg.at 12 0 0 ⟨hz, rfl, rfl⟩) rfl dX13_init_117 ?_
                  have n_37 : 0 ≤ σ.1 16 ∧ σ.1 16 ≤ 30 := hB.1 16
                  refine j_icmp_ge (pc := 120) (tgt := 178) dX13_init_120 (by decide) (by omega) (by omega) (fun c_120 => ?_) (fun c_120 => ?_)
                  · refine j_vret (pc := 178) rfl (hQ _ ?_) dX13_init_178
                    have e9 : sHn σ 0 = n := by unfold sHn; rw [← sum5 (sVo σ 0)]; split <;> omega
                    have e8 : sHo σ 0 = H := by unfold sHo; rw [e9, hH]
                    exact ⟨hg, a_6, a_13, a_21, by rw [e9, e8]; exact gq, gv, by rw [e8]; exact gs, by rw [e8]; exact gb⟩
                  · refine j_aload_n (pc := 123) dX13_init_123 rfl ?_
                    refine j_callV (pc := 124) (c_hasVotes g q a_6 a_13 a_21 (n : Int) H.2.2.1 H.2.2.2 (sVo σ 0) gq gv (fun p _ => sVo_rng hB 0 p)) (lw_V q236 q238 qs2 q77 q239) rfl md_yX13_hasVotes (RC.of2 gq rfl) (by decide) (by decide) rfl (Nat.le_of_ble_eq_true rfl) dX13_init_124 (qI.k (fun r_124 s_124 q_124 => ?_))
                    obtain ⟨e1q_124, e2q_124⟩ := q_124
                    subst r_124
                    subst s_124
                    refine j_ifb_eq (pc := 127) (tgt := 178) dX13_init_127 (by decide) (fun c_127 => ?_) (fun c_127 => ?_)
                    · refine j_vret (pc := 178) rfl (hQ _ ?_) dX13_init_178
                      have e9 : sHn σ 0 = n := by unfold sHn; rw [← sum5 (sVo σ 0)]; split <;> omega
                      have e8 : sHo σ 0 = H := by unfold sHo; rw [e9, hH]
                      exact ⟨hg, a_6, a_13, a_21, by rw [e9, e8]; exact gq, gv, by rw [e8]; exact gs, by rw [e8]; exact gb⟩
                    · refine j_aload_n (pc := 130) dX13_init_130 rfl ?_
                      refine j_aload_n (pc := 131) dX13_init_131 rfl ?_
                      refine j2_get fa_X13_64_X9 (show g (ad 12 0 0) = some (pO 7 [IV (σ.1 15), IV (σ.1 16), IV (σ.1 17), .ref (ad 13 0 0), .ref (ad 14 0 0), .ref (ad 15 0 0), .ref (ad 16 0 0), .ref (ad 17 0 0), .ref (ad 18 0 0), IV (σ.1 14)]) from hg.at 12 0 0 ⟨hz, rfl, rfl⟩) rfl dX13_init_132 ?_
                      have n_38 : 0 ≤ σ.1 17 ∧ σ.1 17 ≤ 1 := hB.1 17
                      refine j_callV (pc := 135) (c_next g q a_6 a_13 a_21 (n : Int) H.2.2.1 H.2.2.2 (sVo σ 0) H.1 gq gv gs hok (σ.1 17) ho hnu9 ne_9) (lw_V q240 q242 qs3 q77 q243) rfl md_yX13_next (RC.of2 gq rfl) (by decide) (by decide) rfl (Nat.le_of_ble_eq_true rfl) dX13_init_135 (qI.k (fun r_135 s_135 q_135 => ?_))
                      obtain ⟨e1q_135, e2q_135⟩ := q_135
                      subst r_135
                      have hx9 := hNx_rng (sVo σ 0) (σ.1 17) (H.1, H.1, H.2.2.1, H.2.2.2) hnu9.1
                      have z_39 : s_135 a_6 = some (pA 0 5 (sVo σ 0)) := by rw [e2q_135]; exact upH_d gv (Ne.symm ne_2)
                      have z_40 : s_135 a_13 = some (pA 0 5 H.1) := by rw [e2q_135]; exact upH_d gs (Ne.symm ne_11)
                      have z_41 : s_135 a_21 = some (pA 0 30 H.2.1) := by rw [e2q_135]; exact upH_d gb (Ne.symm ne_23)
                      have z_42 : s_135 q = some (pO 11 [.ref a_6, .ref a_13, .ref a_21, IV (n : Int), IV (H.2.2.1 + (if 1 < (hBT (sVo σ 0) (σ.1 17) H.1 5).2 then 1 else 0)), IV (hLk (sVo σ 0) (σ.1 17) (H.1, H.1, H.2.2.1, H.2.2.2))]) := by rw [e2q_135]; exact upH_self _ _ _
                      have R_43 : Rel K s_135 o ad σ := hg.off e2q_135 fo_q
                      refine j_nameI (fun x_135 ex_135 => ?_)
                      refine j_istore (pc := 138) dX13_init_138 (by decide) (lo' := [some (.ref q), some (.ref (ad 12 0 0)), some (IV 0), some (IV (n : Int)), some (IV x_135)]) rfl ?_
                      refine j_aload_n (pc := 140) dX13_init_140 rfl ?_
                      refine j2_get fa_X13_15_X13 z_42 rfl dX13_init_141 ?_
                      refine j_iload (pc := 144) dX13_init_144 rfl ?_
                      refine j_dup2 (pc := 146) dX13_init_146 rfl rfl ?_
                      refine j2_iald (i := x_135) z_40 (by show 0 ≤ x_135 ∧ x_135 < ((5 : Nat) : Int); omega) dX13_init_147 ?_
                      refine j_iconst (pc := 148) dX13_init_148 rfl ?_
                      refine j_iadd (pc := 149) dX13_init_149 ?_
                      refine j2_iast (i := x_135) z_40 (by show 0 ≤ x_135 ∧ x_135 < ((5 : Nat) : Int); omega) dX13_init_150 (fun h_150 e_150 => ?_)
                      have z_44 : h_150 a_6 = some (pA 0 5 (sVo σ 0)) := by rw [e_150]; exact upH_d z_39 ne_9
                      have z_45 : h_150 a_21 = some (pA 0 30 H.2.1) := by rw [e_150]; exact upH_d z_41 (Ne.symm ne_21)
                      have z_46 : h_150 q = some (pO 11 [.ref a_6, .ref a_13, .ref a_21, IV (n : Int), IV (H.2.2.1 + (if 1 < (hBT (sVo σ 0) (σ.1 17) H.1 5).2 then 1 else 0)), IV (hLk (sVo σ 0) (σ.1 17) (H.1, H.1, H.2.2.1, H.2.2.2))]) := by rw [e_150]; exact upH_d z_42 ne_11
                      have z_47 : h_150 a_13 = some (pA 0 5 (uA H.1 (x_135).toNat ((H.1 (x_135).toNat) + 1))) := by rw [e_150]; exact upH_self _ _ _
                      have R_48 : Rel K h_150 o ad σ := R_43.off e_150 fo_a_13
                      refine j_aload_n (pc := 151) dX13_init_151 rfl ?_
                      refine j2_get fa_X13_18_X13 z_46 rfl dX13_init_152 ?_
                      refine j_aload_n (pc := 155) dX13_init_155 rfl ?_
                      refine j2_get fa_X13_72_X13 z_46 rfl dX13_init_156 ?_
                      refine j_iload (pc := 159) dX13_init_159 rfl ?_
                      refine j2_iast (i := (n : Int)) z_45 (by show 0 ≤ (n : Int) ∧ (n : Int) < ((30 : Nat) : Int); omega) dX13_init_161 (fun h_161 e_161 => ?_)
                      have z_49 : h_161 a_6 = some (pA 0 5 (sVo σ 0)) := by rw [e_161]; exact upH_d z_44 ne_19
                      have z_50 : h_161 q = some (pO 11 [.ref a_6, .ref a_13, .ref a_21, IV (n : Int), IV (H.2.2.1 + (if 1 < (hBT (sVo σ 0) (σ.1 17) H.1 5).2 then 1 else 0)), IV (hLk (sVo σ 0) (σ.1 17) (H.1, H.1, H.2.2.1, H.2.2.2))]) := by rw [e_161]; exact upH_d z_46 ne_23
                      have z_51 : h_161 a_13 = some (pA 0 5 (uA H.1 (x_135).toNat ((H.1 (x_135).toNat) + 1))) := by rw [e_161]; exact upH_d z_47 ne_21
                      have z_52 : h_161 a_21 = some (pA 0 30 (uA H.2.1 n x_135)) := by rw [e_161]; exact upH_self _ _ _
                      have R_53 : Rel K h_161 o ad σ := R_48.off e_161 fo_a_21
                      refine j_aload_n (pc := 162) dX13_init_162 rfl ?_
                      refine j_dup (pc := 163) dX13_init_163 rfl ?_
                      refine j2_get fa_X13_72_X13 z_50 rfl dX13_init_164 ?_
                      refine j_iconst (pc := 167) dX13_init_167 rfl ?_
                      refine j_iadd (pc := 168) dX13_init_168 ?_
                      refine j2_put fp_X13_72_X13 z_50 (by decide) (Nat.le_of_ble_eq_true rfl) rfl rfl dX13_init_169 (fun h_169 e_169 => ?_)
                      have z_54 : h_169 a_6 = some (pA 0 5 (sVo σ 0)) := by rw [e_169]; exact upH_d z_49 (Ne.symm ne_2)
                      have z_55 : h_169 a_13 = some (pA 0 5 (uA H.1 (x_135).toNat ((H.1 (x_135).toNat) + 1))) := by rw [e_169]; exact upH_d z_51 (Ne.symm ne_11)
                      have z_56 : h_169 a_21 = some (pA 0 30 (uA H.2.1 n x_135)) := by rw [e_169]; exact upH_d z_52 (Ne.symm ne_23)
                      have z_57 : h_169 q = some (pO 11 [.ref a_6, .ref a_13, .ref a_21, IV ((n : Int) + 1), IV (H.2.2.1 + (if 1 < (hBT (sVo σ 0) (σ.1 17) H.1 5).2 then 1 else 0)), IV (hLk (sVo σ 0) (σ.1 17) (H.1, H.1, H.2.2.1, H.2.2.2))]) := by rw [e_169]; exact upH_self _ _ _
                      have R_58 : Rel K h_169 o ad σ := R_53.off e_169 fo_q
                      refine j_iinc (pc := 172) dX13_init_172 rfl (by decide) (lo' := [some (.ref q), some (.ref (ad 12 0 0)), some (IV 0), some (IV ((n : Int) + 1)), some (IV x_135)]) rfl ?_
                      refine j_goto (pc := 175) (tgt := 115) dX13_init_175 (by decide) ?_
                      refine j_sub (lo' := [some (.ref q), some (.ref (ad 12 0 0)), some (IV 0), some (IV ((n : Int) + 1)), none]) ⟨Or.inr rfl, Or.inr rfl, Or.inr rfl, Or.inr rfl, Or.inl rfl, trivial⟩ ?_
                      exact j_room (by omega) (by omega) (ih_115 (n + 1) h_169 (hStep (sVo σ 0) (σ.1 17) H n) (by omega) (by omega) (by show hStep (sVo σ 0) (σ.1 17) H n = hStep (sVo σ 0) (σ.1 17) (hN (sVo σ 0) (σ.1 17) (sumN (σ.2 18) 5) n) n; rw [← hH]) (Or.inr (by omega)) R_58 z_57 z_54 (by have h9 := z_55; show _ = some (pA 0 5 (uA H.1 (hNx (sVo σ 0) (σ.1 17) H).toNat (H.1 (hNx (sVo σ 0) (σ.1 17) H).toNat + 1))); rw [show hNx (sVo σ 0) (σ.1 17) H = x_135 from ex_135.symm]; exact h9) (by have h9 := z_56; show _ = some (pA 0 30 (uA H.2.1 n (hNx (sVo σ 0) (σ.1 17) H))); rw [show hNx (sVo σ 0) (σ.1 17) H = x_135 from ex_135.symm]; exact h9))
              exact j_room (by omega) (by omega) (hl_115 _ 0 hx_31 (hN (sVo σ 0) (σ.1 17) (sumN (σ.2 18) 5) 0) (Nat.lt_succ_self _) (by omega) rfl (Or.inl rfl) R_36 z_32 z_35 z_33 z_34)
            · have hk5 : k < 5 := by omega
              have d28 : 0 ≤ σ.2 28 k ∧ σ.2 28 k ≤ 20 := hB.2 28 _
              have hse9 := hset k (by omega)
              have b32 : -1 ≤ σ.2 32 k := (hB.2 32 k).1
              refine j_aload_n (pc := 69) dX13_init_69 rfl ?_
              refine j2_get fa_X13_30_X9 (show g (ad 12 0 0) = some (pO 7 [IV (σ.1 15), IV (σ.1 16), IV (σ.1 17), .ref (ad 13 0 0), .ref (ad 14 0 0), .ref (ad 15 0 0), .ref (ad 16 0 0), .ref (ad 17 0 0), .ref (ad 18 0 0), IV (σ.1 14)]) from hg.at 12 0 0 ⟨hz, rfl, rfl⟩) rfl dX13_init_70 ?_
              refine j_iload_n (pc := 73) dX13_init_73 rfl ?_
              refine j_callF (pc := 74) (xm := ⟨"java/util/List", "get", "(I)Ljava/lang/Object;"⟩) (l2_get (show g (ad 16 0 0) = some (pL (rg (σ.1 19) (fun q => ad 19 q 0))) from hg.at 16 0 0 ⟨hz, rfl, rfl⟩) (i := (k : Int)) (v := ad 19 k 0) (by omega) (rg_at (by omega) (by omega))) (lw_F q182 q185 q187 q47 q189) hfe.2.2.1 (ci := 2) rfl rfl mdx_yJ2_get (RC.ofL (show g (ad 16 0 0) = some (pL (rg (σ.1 19) (fun q => ad 19 q 0))) from hg.at 16 0 0 ⟨hz, rfl, rfl⟩)) (by decide) (by decide) rfl (Nat.le_of_ble_eq_true rfl) dX13_init_74 (qR.k (fun r_74 s_74 q_74 => ?_))
              obtain ⟨e1q_74, e2q_74⟩ := q_74
              subst r_74
              subst s_74
              refine j2_castS (C := RX10) rfl q200 (show g (ad 19 k 0) = some (pO 8 [.ref (ad 20 k 0), .ref (ad 21 k 0), va_rf (if σ.2 32 k = -1 then none else some (ad 24 k 0)), IV (σ.2 21 k)]) from hg.at 19 k 0 ⟨hz, (by omega), rfl⟩) dX13_init_79 ?_
              refine j_astore (pc := 82) dX13_init_82 (by decide) (lo' := [some (.ref q), some (.ref (ad 12 0 0)), some (IV 0), some (IV (k : Int)), some (.ref (ad 19 k 0))]) rfl ?_
              refine j_aload_n (pc := 84) dX13_init_84 rfl ?_
              refine j_iload_n (pc := 85) dX13_init_85 rfl ?_
              refine j_if_eq (pc := 86) (tgt := 99) dX13_init_86 (by decide) (by decide) (fun c_86 => ?_) (fun c_86 => ?_)
              · refine j_aload (pc := 99) dX13_init_99 rfl ?_
                refine j2_get fa_X13_50_X10 (show g (ad 19 k 0) = some (pO 8 [.ref (ad 20 k 0), .ref (ad 21 k 0), va_rf (if σ.2 32 k = -1 then none else some (ad 24 k 0)), IV (σ.2 21 k)]) from hg.at 19 k 0 ⟨hz, (by omega), rfl⟩) rfl dX13_init_101 ?_
                rw [if_neg hse9]
                refine j_callV (pc := 104) (c_hadd g q a_6 (ad 27 k 0) (ad 24 k 0) a_13 a_21 0 0 (sumN (σ.2 18) 5) (σ.2 30 (σ.2 32 k).toNat) vf (c6 (fun q => σ.2 29 (6 * (σ.2 32 k).toNat + q))) gq gv (show g (ad 24 k 0) = some (pO 10 [IV (σ.2 30 (σ.2 32 k).toNat), .ref (ad 27 k 0)]) from hg.at 24 k 0 ⟨hz, (by omega), hse9, rfl⟩) (show g (ad 27 k 0) = some (pA 0 6 (c6 (fun q => σ.2 29 (6 * (σ.2 32 k).toNat + q)))) from hg.at 27 k 0 ⟨hz, (by omega), hse9, rfl⟩)) (lw_V q232 q234 qs1 q77 q235) rfl md_yX13_add (RC.of2 gq rfl) (by decide) (by decide) rfl (Nat.le_of_ble_eq_true rfl) dX13_init_104 (qV.k (fun s_104 q_104 => ?_))
                have z_59 : s_104 q = some (pO 11 [.ref a_6, .ref a_13, .ref a_21, IV 0, IV 0, IV (sumN (σ.2 18) 5)]) := by rw [q_104]; exact upH_d gq ne_2
                have z_60 : s_104 a_13 = some (pA 0 5 (fun _ => 0)) := by rw [q_104]; exact upH_d gs (Ne.symm ne_9)
                have z_61 : s_104 a_21 = some (pA 0 30 (fun _ => 0)) := by rw [q_104]; exact upH_d gb (Ne.symm ne_19)
                have z_62 : s_104 a_6 = some (pA 0 5 (fun p => vf p + (c6 (fun q => σ.2 29 (6 * (σ.2 32 k).toNat + q))) p)) := by rw [q_104]; exact upH_self _ _ _
                have R_63 : Rel K s_104 o ad σ := hg.off q_104 fo_a_6
                refine j_iinc (pc := 107) dX13_init_107 rfl (by decide) (lo' := [some (.ref q), some (.ref (ad 12 0 0)), some (IV 0), some (IV ((k : Int) + 1)), some (.ref (ad 19 k 0))]) rfl ?_
                refine j_goto (pc := 110) (tgt := 56) dX13_init_110 (by decide) ?_
                refine j_sub (lo' := [some (.ref q), some (.ref (ad 12 0 0)), some (IV 0), some (IV ((k : Int) + 1)), none]) ⟨Or.inr rfl, Or.inr rfl, Or.inr rfl, Or.inr rfl, Or.inl rfl, trivial⟩ ?_
                exact j_room (by omega) (by omega) (ih_56 (k + 1) s_104 (fun p => vf p + (c6 (fun q => σ.2 29 (6 * (σ.2 32 k).toNat + q))) p) b9 c9 (by omega) (by omega) (by omega) R_63 z_59 z_62 z_60 z_61 (fun p hp => by show vf p + c6 (fun x => σ.2 29 (6 * (σ.2 32 k).toNat + x)) p = sVoN σ 0 p k + (if (0 : Int) = 0 then σ.2 29 (6 * σ.2 32 k + p).toNat else sBoxed σ k p); rw [hv9 p hp, if_pos rfl, c6_at (by omega), show (6 * σ.2 32 k + (p : Int)).toNat = 6 * (σ.2 32 k).toNat + p by omega]))
              · exact absurd c_86 (by decide)
        exact j_room (by omega) (by omega) (hl_56 _ 0 g (fun _ => 0) 10 50 (Nat.lt_succ_self _) (by omega) (by omega) hg (by rw [e5] at gq; exact gq) gv gs gb (fun _ _ => rfl))
      · refine j_aload_n (pc := 33) dX13_init_33 rfl ?_
        refine j_dup (pc := 34) dX13_init_34 rfl ?_
        refine j2_get fa_X13_21_X13 gq rfl dX13_init_35 ?_
        refine j_aload_n (pc := 38) dX13_init_38 rfl ?_
        refine j2_get fa_X13_25_X9 (show g (ad 12 0 0) = some (pO 7 [IV (σ.1 15), IV (σ.1 16), IV (σ.1 17), .ref (ad 13 0 0), .ref (ad 14 0 0), .ref (ad 15 0 0), .ref (ad 16 0 0), .ref (ad 17 0 0), .ref (ad 18 0 0), IV (σ.1 14)]) from hg.at 12 0 0 ⟨hz, rfl, rfl⟩) rfl dX13_init_39 ?_
        refine j_iload_n (pc := 42) dX13_init_42 rfl ?_
        refine j2_iald (i := (k : Int)) (show g (ad 13 0 0) = some (pA 0 5 (σ.2 18)) from hg.at 13 0 0 ⟨hz, rfl, rfl⟩) (by show 0 ≤ (k : Int) ∧ (k : Int) < ((5 : Nat) : Int); omega) dX13_init_43 ?_
        refine j_eqI (σ.2 18 k) rfl ?_
        have n_64 : 0 ≤ σ.2 18 k ∧ σ.2 18 k ≤ 9999 := hB.2 18 k
        refine j_iadd (pc := 44) dX13_init_44 ?_
        refine j2_put fp_X13_21_X13 gq (by decide) (Nat.le_of_ble_eq_true rfl) rfl rfl dX13_init_45 (fun h_45 e_45 => ?_)
        have z_65 : h_45 a_6 = some (pA 0 5 (fun _ => 0)) := by rw [e_45]; exact upH_d gv (Ne.symm ne_2)
        have z_66 : h_45 a_13 = some (pA 0 5 (fun _ => 0)) := by rw [e_45]; exact upH_d gs (Ne.symm ne_11)
        have z_67 : h_45 a_21 = some (pA 0 30 (fun _ => 0)) := by rw [e_45]; exact upH_d gb (Ne.symm ne_23)
        have z_68 : h_45 q = some (pO 11 [.ref a_6, .ref a_13, .ref a_21, IV 0, IV 0, IV ((sumN (σ.2 18) k) + (σ.2 18 k))]) := by rw [e_45]; exact upH_self _ _ _
        have R_69 : Rel K h_45 o ad σ := hg.off e_45 fo_q
        refine j_iinc (pc := 48) dX13_init_48 rfl (by decide) (lo' := [some (.ref q), some (.ref (ad 12 0 0)), some (IV 0), some (IV ((k : Int) + 1)), none]) rfl ?_
        refine j_goto (pc := 51) (tgt := 28) dX13_init_51 (by decide) ?_
        exact j_room (by omega) (by omega) (ih_28 (k + 1) h_45 (by omega) (by omega) R_69 z_68 z_65 z_66 z_67)
  exact j_room (by omega) (by omega) (hl_28 _ 0 h_23 (Nat.lt_succ_self _) (by omega) R_30 z_29 z_26 z_27 z_28)

set_option maxHeartbeats 4000000 in
theorem c_house1 {Γ : GG} {A : Nat → Prop} {K : KK} {l : Launch} (h : AL2) (hke : KE Γ A K) (hfe : FE Γ) (hbe : BE Γ A K) (hse : SE Γ A K) (hne : NE Γ) (o : Nat) (ad : AD) (σ : MM) (hR : Rel K h o ad σ) (hB : Bd σ) (hz : σ.1 14 ≠ 0) (q : Nat) (fo_q : ∀ k i j, live σ k i j → ad k i j ≠ q) (hq : h q = some (pO 11 [.null, .null, .null, IV 0, IV 0, IV 0])) : Ct Γ A (Rep2 Γ A K) l yX13_init (ws_ yX13_init cX13_init 5 none) 7 16 100 [.ref q, .ref (ad 12 0 0), IV 1] h (qV (fun (h' : AL2) => Rel K h' o ad σ ∧ ∃ bv bs bg, h' q = some (pO 11 [.ref bv, .ref bs, .ref bg, IV (sHn σ 1), IV ((sHo σ 1).2.2.1), IV ((sHo σ 1).2.2.2)]) ∧ h' bv = some (pA 0 5 (sVo σ 1)) ∧ h' bs = some (pA 0 5 (sHo σ 1).1) ∧ h' bg = some (pA 0 30 (sHo σ 1).2.1))) X0 := by
  refine Ct.ofJ (own := RX13) (nm := "<init>") (lo := [some (.ref q), some (.ref (ad 12 0 0)), some (IV 1), none, none]) pn_X13 rfl rfl (List.forall_mem_cons.mpr ⟨rfl, (List.forall_mem_cons.mpr ⟨rfl, (List.forall_mem_cons.mpr ⟨rfl, (fun _ h => nomatch h)⟩)⟩)⟩) (Nat.le_of_ble_eq_true rfl) rfl ?_
  have hQ : ∀ (h' : AL2), (Rel K h' o ad σ ∧ ∃ bv bs bg, h' q = some (pO 11 [.ref bv, .ref bs, .ref bg, IV (sHn σ 1), IV ((sHo σ 1).2.2.1), IV ((sHo σ 1).2.2.2)]) ∧ h' bv = some (pA 0 5 (sVo σ 1)) ∧ h' bs = some (pA 0 5 (sHo σ 1).1) ∧ h' bg = some (pA 0 30 (sHo σ 1).2.1)) → (qV (fun (h' : AL2) => Rel K h' o ad σ ∧ ∃ bv bs bg, h' q = some (pO 11 [.ref bv, .ref bs, .ref bg, IV (sHn σ 1), IV ((sHo σ 1).2.2.1), IV ((sHo σ 1).2.2.2)]) ∧ h' bv = some (pA 0 5 (sVo σ 1)) ∧ h' bs = some (pA 0 5 (sHo σ 1).1) ∧ h' bg = some (pA 0 30 (sHo σ 1).2.1))) none h' := fun h' h => ⟨rfl, h⟩
  generalize (qV (fun (h' : AL2) => Rel K h' o ad σ ∧ ∃ bv bs bg, h' q = some (pO 11 [.ref bv, .ref bs, .ref bg, IV (sHn σ 1), IV ((sHo σ 1).2.2.1), IV ((sHo σ 1).2.2.2)]) ∧ h' bv = some (pA 0 5 (sVo σ 1)) ∧ h' bs = some (pA 0 5 (sHo σ 1).1) ∧ h' bg = some (pA 0 30 (sHo σ 1).2.1))) = QP at hQ ⊢
  have n19 : 0 ≤ σ.1 19 ∧ σ.1 19 ≤ 5 := hB.1 19
  have n16 : 0 ≤ σ.1 16 ∧ σ.1 16 ≤ 30 := hB.1 16
  have n17 : 0 ≤ σ.1 17 ∧ σ.1 17 ≤ 1 := hB.1 17
  have ho : σ.1 17 = 0 ∨ σ.1 17 = 1 := by omega
  refine j_aload_n (pc := 0) dX13_init_0 rfl ?_
  refine j_objInit (pc := 1) q178 q87 q88 (by decide) (Nat.le_of_ble_eq_true rfl) dX13_init_1 ?_
  refine j_aload_n (pc := 4) dX13_init_4 rfl ?_
  refine j_iconst (pc := 5) dX13_init_5 rfl ?_
  refine j_room (cl' := 15 + 1) (sl' := 95 + 5) (by omega) (by omega) ?_
  refine j2_newa (i := 5) (N := 5) (atype := .int) hke.1 (Or.inl ⟨rfl, rfl⟩) q141 (by omega) (by omega) (by omega) dX13_init_6 (fun a_6 h_6 n_6 e_6 => ?_)
  have z_1 : h_6 q = some (pO 11 [.null, .null, .null, IV 0, IV 0, IV 0]) := by rw [e_6]; exact upH_old hq n_6
  have ne_2 : q ≠ a_6 := fresh_ne hq n_6
  have z_3 : h_6 a_6 = some (pA 0 5 (fun _ => 0)) := by rw [e_6]; exact upH_self _ _ _
  have fo_a_6 : ∀ k i j, live σ k i j → ad k i j ≠ a_6 := fun k i j hl => hR.fresh n_6 hl
  have R_4 : Rel K h_6 o ad σ := hR.other (fun b c hb => by rw [e_6]; exact upH_old hb n_6)
  refine j2_putF rfl fp_X13_9_X13 z_1 (by decide) (Nat.le_of_ble_eq_true rfl) rfl rfl dX13_init_8 (fun h_8 e_8 => ?_)
  have z_5 : h_8 a_6 = some (pA 0 5 (fun _ => 0)) := by rw [e_8]; exact upH_d z_3 (Ne.symm ne_2)
  have z_6 : h_8 q = some (pO 11 [.ref a_6, .null, .null, IV 0, IV 0, IV 0]) := by rw [e_8]; exact upH_self _ _ _
  have R_7 : Rel K h_8 o ad σ := R_4.off e_8 fo_q
  refine j_aload_n (pc := 11) dX13_init_11 rfl ?_
  refine j_iconst (pc := 12) dX13_init_12 rfl ?_
  refine j_room (cl' := 14 + 1) (sl' := 90 + 5) (by omega) (by omega) ?_
  refine j2_newa (i := 5) (N := 5) (atype := .int) hke.1 (Or.inl ⟨rfl, rfl⟩) q141 (by omega) (by omega) (by omega) dX13_init_13 (fun a_13 h_13 n_13 e_13 => ?_)
  have z_8 : h_13 a_6 = some (pA 0 5 (fun _ => 0)) := by rw [e_13]; exact upH_old z_5 n_13
  have ne_9 : a_6 ≠ a_13 := fresh_ne z_5 n_13
  have z_10 : h_13 q = some (pO 11 [.ref a_6, .null, .null, IV 0, IV 0, IV 0]) := by rw [e_13]; exact upH_old z_6 n_13
  have ne_11 : q ≠ a_13 := fresh_ne z_6 n_13
  have z_12 : h_13 a_13 = some (pA 0 5 (fun _ => 0)) := by rw [e_13]; exact upH_self _ _ _
  have fo_a_13 : ∀ k i j, live σ k i j → ad k i j ≠ a_13 := fun k i j hl => R_7.fresh n_13 hl
  have R_13 : Rel K h_13 o ad σ := R_7.other (fun b c hb => by rw [e_13]; exact upH_old hb n_13)
  refine j2_putF rfl fp_X13_15_X13 z_10 (by decide) (Nat.le_of_ble_eq_true rfl) rfl rfl dX13_init_15 (fun h_15 e_15 => ?_)
  have z_14 : h_15 a_6 = some (pA 0 5 (fun _ => 0)) := by rw [e_15]; exact upH_d z_8 (Ne.symm ne_2)
  have z_15 : h_15 a_13 = some (pA 0 5 (fun _ => 0)) := by rw [e_15]; exact upH_d z_12 (Ne.symm ne_11)
  have z_16 : h_15 q = some (pO 11 [.ref a_6, .ref a_13, .null, IV 0, IV 0, IV 0]) := by rw [e_15]; exact upH_self _ _ _
  have R_17 : Rel K h_15 o ad σ := R_13.off e_15 fo_q
  refine j_aload_n (pc := 18) dX13_init_18 rfl ?_
  refine j_bipush (pc := 19) (a := 30) dX13_init_19 (by decide) ?_
  refine j_room (cl' := 13 + 1) (sl' := 60 + 30) (by omega) (by omega) ?_
  refine j2_newa (i := 30) (N := 30) (atype := .int) hke.1 (Or.inl ⟨rfl, rfl⟩) q141 (by omega) (by omega) (by omega) dX13_init_21 (fun a_21 h_21 n_21 e_21 => ?_)
  have z_18 : h_21 a_6 = some (pA 0 5 (fun _ => 0)) := by rw [e_21]; exact upH_old z_14 n_21
  have ne_19 : a_6 ≠ a_21 := fresh_ne z_14 n_21
  have z_20 : h_21 a_13 = some (pA 0 5 (fun _ => 0)) := by rw [e_21]; exact upH_old z_15 n_21
  have ne_21 : a_13 ≠ a_21 := fresh_ne z_15 n_21
  have z_22 : h_21 q = some (pO 11 [.ref a_6, .ref a_13, .null, IV 0, IV 0, IV 0]) := by rw [e_21]; exact upH_old z_16 n_21
  have ne_23 : q ≠ a_21 := fresh_ne z_16 n_21
  have z_24 : h_21 a_21 = some (pA 0 30 (fun _ => 0)) := by rw [e_21]; exact upH_self _ _ _
  have fo_a_21 : ∀ k i j, live σ k i j → ad k i j ≠ a_21 := fun k i j hl => R_17.fresh n_21 hl
  have R_25 : Rel K h_21 o ad σ := R_17.other (fun b c hb => by rw [e_21]; exact upH_old hb n_21)
  refine j2_putF rfl fp_X13_18_X13 z_22 (by decide) (Nat.le_of_ble_eq_true rfl) rfl rfl dX13_init_23 (fun h_23 e_23 => ?_)
  have z_26 : h_23 a_6 = some (pA 0 5 (fun _ => 0)) := by rw [e_23]; exact upH_d z_18 (Ne.symm ne_2)
  have z_27 : h_23 a_13 = some (pA 0 5 (fun _ => 0)) := by rw [e_23]; exact upH_d z_20 (Ne.symm ne_11)
  have z_28 : h_23 a_21 = some (pA 0 30 (fun _ => 0)) := by rw [e_23]; exact upH_d z_24 (Ne.symm ne_23)
  have z_29 : h_23 q = some (pO 11 [.ref a_6, .ref a_13, .ref a_21, IV 0, IV 0, IV 0]) := by rw [e_23]; exact upH_self _ _ _
  have R_30 : Rel K h_23 o ad σ := R_25.off e_23 fo_q
  refine j_iconst (pc := 26) dX13_init_26 rfl ?_
  refine j_istore_n (pc := 27) dX13_init_27 (by decide) (lo' := [some (.ref q), some (.ref (ad 12 0 0)), some (IV 1), some (IV 0), none]) rfl ?_
  have hl_28 : ∀ (fu : Nat) (k : Nat) (g : AL2), 5 - k < fu → k ≤ 5 → Rel K g o ad σ → g q = some (pO 11 [.ref a_6, .ref a_13, .ref a_21, IV 0, IV 0, IV (sumN (σ.2 18) k)]) → g a_6 = some (pA 0 5 (fun _ => 0)) → g a_13 = some (pA 0 5 (fun _ => 0)) → g a_21 = some (pA 0 30 (fun _ => 0)) → J Γ A (Rep2 Γ A K) l RX13 "<init>" cX13_init 5 none [] 7 16 100 QP X0 12 50 g 28 [some (.ref q), some (.ref (ad 12 0 0)), some (IV 1), some (IV (k : Int)), none] [] := by
    intro fu
    induction fu with
    | zero => intro k g hm; exact absurd hm (Nat.not_lt_zero _)
    | succ fu ih_28 =>
      intro k g hm hk hg gq gv gs gb
      refine j_iload_n (pc := 28) dX13_init_28 rfl ?_
      refine j_iconst (pc := 29) dX13_init_29 rfl ?_
      refine j_icmp_ge (pc := 30) (tgt := 54) dX13_init_30 (by decide) (by omega) (by decide) (fun c_30 => ?_) (fun c_30 => ?_)
      · have e5 : k = 5 := by omega
        refine j_iconst (pc := 54) dX13_init_54 rfl ?_
        refine j_istore_n (pc := 55) dX13_init_55 (by decide) (lo' := [some (.ref q), some (.ref (ad 12 0 0)), some (IV 1), some (IV 0), none]) rfl ?_
        have hl_56 : ∀ (fu : Nat) (k : Nat) (g : AL2) (vf : Nat → Int) (b9 : Nat) (c9 : Nat), 5 - k < fu → (k : Int) ≤ σ.1 19 → 2 * (5 - k) ≤ b9 ∧ 10 * (5 - k) ≤ c9 → Rel K g o ad σ → g q = some (pO 11 [.ref a_6, .ref a_13, .ref a_21, IV 0, IV 0, IV (sumN (σ.2 18) 5)]) → g a_6 = some (pA 0 5 vf) → g a_13 = some (pA 0 5 (fun _ => 0)) → g a_21 = some (pA 0 30 (fun _ => 0)) → (∀ p : Nat, p < 5 → vf p = sVoN σ 1 p k) → J Γ A (Rep2 Γ A K) l RX13 "<init>" cX13_init 5 none [] 7 16 100 QP X0 b9 c9 g 56 [some (.ref q), some (.ref (ad 12 0 0)), some (IV 1), some (IV (k : Int)), none] [] := by
          intro fu
          induction fu with
          | zero => intro k g vf b9 c9 hm; exact absurd hm (Nat.not_lt_zero _)
          | succ fu ih_56 =>
            intro k g vf b9 c9 hm hk hbc hg gq gv gs gb hv9
            refine j_iload_n (pc := 56) dX13_init_56 rfl ?_
            refine j_aload_n (pc := 57) dX13_init_57 rfl ?_
            refine j2_get fa_X13_30_X9 (show g (ad 12 0 0) = some (pO 7 [IV (σ.1 15), IV (σ.1 16), IV (σ.1 17), .ref (ad 13 0 0), .ref (ad 14 0 0), .ref (ad 15 0 0), .ref (ad 16 0 0), .ref (ad 17 0 0), .ref (ad 18 0 0), IV (σ.1 14)]) from hg.at 12 0 0 ⟨hz, rfl, rfl⟩) rfl dX13_init_58 ?_
            refine j_callF (pc := 61) (xm := ⟨"java/util/List", "size", "()I"⟩) (l2_size (show g (ad 16 0 0) = some (pL (rg (σ.1 19) (fun q => ad 19 q 0))) from hg.at 16 0 0 ⟨hz, rfl, rfl⟩)) (lw_F q180 q159 q161 q47 q163) hfe.1 (ci := 2) rfl rfl mdx_yJ2_size (RC.ofL (show g (ad 16 0 0) = some (pL (rg (σ.1 19) (fun q => ad 19 q 0))) from hg.at 16 0 0 ⟨hz, rfl, rfl⟩)) (by decide) (by decide) rfl (Nat.le_of_ble_eq_true rfl) dX13_init_61 (qI.k (fun r_61 s_61 q_61 => ?_))
            obtain ⟨e1q_61, e2q_61⟩ := q_61
            subst s_61
            rw [rg_len (by omega)] at e1q_61
            subst r_61
            refine j_icmp_ge (pc := 66) (tgt := 113) dX13_init_66 (by decide) (by omega) (by omega) (fun c_66 => ?_) (fun c_66 => ?_)
            · have ek : k = (σ.1 19).toNat := by omega
              refine j2_ext (f := vf) (f9 := sVo σ 1) gv (fun p hp => by rw [hv9 p hp, ek]; rfl) (fun hx_31 ex_31 => ?_)
              have z_32 : hx_31 q = some (pO 11 [.ref a_6, .ref a_13, .ref a_21, IV 0, IV 0, IV (sumN (σ.2 18) 5)]) := by rw [ex_31]; exact upH_d gq ne_2
              have z_33 : hx_31 a_13 = some (pA 0 5 (fun _ => 0)) := by rw [ex_31]; exact upH_d gs (Ne.symm ne_9)
              have z_34 : hx_31 a_21 = some (pA 0 30 (fun _ => 0)) := by rw [ex_31]; exact upH_d gb (Ne.symm ne_19)
              have z_35 : hx_31 a_6 = some (pA 0 5 (sVo σ 1)) := by rw [ex_31]; exact upH_self _ _ _
              have R_36 : Rel K hx_31 o ad σ := hg.off ex_31 fo_a_6
              refine j_iconst (pc := 113) dX13_init_113 rfl ?_
              refine j_istore_n (pc := 114) dX13_init_114 (by decide) (lo' := [some (.ref q), some (.ref (ad 12 0 0)), some (IV 1), some (IV 0), none]) rfl ?_
              have hl_115 : ∀ (fu : Nat) (n : Nat) (g : AL2) (H : HS), (σ.1 16).toNat - n < fu → (n : Int) ≤ σ.1 16 → H = hN (sVo σ 1) (σ.1 17) (sumN (σ.2 18) 5) n → n = 0 ∨ 0 < sumN (sVo σ 1) 5 → Rel K g o ad σ → g q = some (pO 11 [.ref a_6, .ref a_13, .ref a_21, IV (n : Int), IV H.2.2.1, IV H.2.2.2]) → g a_6 = some (pA 0 5 (sVo σ 1)) → g a_13 = some (pA 0 5 H.1) → g a_21 = some (pA 0 30 H.2.1) → J Γ A (Rep2 Γ A K) l RX13 "<init>" cX13_init 5 none [] 7 16 100 QP X0 0 0 g 115 [some (.ref q), some (.ref (ad 12 0 0)), some (IV 1), some (IV (n : Int)), none] [] := by
                intro fu
                induction fu with
                | zero => intro n g H hm; exact absurd hm (Nat.not_lt_zero _)
                | succ fu ih_115 =>
                  intro n g H hm hn hH hsn hg gq gv gs gb
                  have hok : hOK (sVo σ 1) H.1 := by rw [hH]; exact hOK_N hB 1 (by omega)
                  have hrn := hN_rng (sVo σ 1) (σ.1 17) (l := sumN (σ.2 18) 5) (by have := seeds_rng hB; omega) n
                  rw [← hH] at hrn
                  have hnu9 := hrn.2.2.2.1
                  refine j_iload_n (pc := 115) dX13_init_115 rfl ?_
                  refine j_aload_n (pc := 116) dX13_init_116 rfl ?_
                  refine j2_get fa_X13_58_X9 (show g (ad 12 0 0) = some (pO 7 [IV (σ.1 15), IV (σ.1 16), IV (σ.1 17), .ref (ad 13 0 0), .ref (ad 14 0 0), .ref (ad 15 0 0), .ref (ad 16 0 0), .ref (ad 17 0 0), .ref (ad 18 0 0), IV (σ.1 14)]) from hg.at 12 0 0 ⟨hz, rfl, rfl⟩) rfl dX13_init_117 ?_
                  have n_37 : 0 ≤ σ.1 16 ∧ σ.1 16 ≤ 30 := hB.1 16
                  refine j_icmp_ge (pc := 120) (tgt := 178) dX13_init_120 (by decide) (by omega) (by omega) (fun c_120 => ?_) (fun c_120 => ?_)
                  · refine j_vret (pc := 178) rfl (hQ _ ?_) dX13_init_178
                    have e9 : sHn σ 1 = n := by unfold sHn; rw [← sum5 (sVo σ 1)]; split <;> omega
                    have e8 : sHo σ 1 = H := by unfold sHo; rw [e9, hH]
                    exact ⟨hg, a_6, a_13, a_21, by rw [e9, e8]; exact gq, gv, by rw [e8]; exact gs, by rw [e8]; exact gb⟩
                  · refine j_aload_n (pc := 123) dX13_init_123 rfl ?_
                    refine j_callV (pc := 124) (c_hasVotes g q a_6 a_13 a_21 (n : Int) H.2.2.1 H.2.2.2 (sVo σ 1) gq gv (fun p _ => sVo_rng hB 1 p)) (lw_V q236 q238 qs2 q77 q239) rfl md_yX13_hasVotes (RC.of2 gq rfl) (by decide) (by decide) rfl (Nat.le_of_ble_eq_true rfl) dX13_init_124 (qI.k (fun r_124 s_124 q_124 => ?_))
                    obtain ⟨e1q_124, e2q_124⟩ := q_124
                    subst r_124
                    subst s_124
                    refine j_ifb_eq (pc := 127) (tgt := 178) dX13_init_127 (by decide) (fun c_127 => ?_) (fun c_127 => ?_)
                    · refine j_vret (pc := 178) rfl (hQ _ ?_) dX13_init_178
                      have e9 : sHn σ 1 = n := by unfold sHn; rw [← sum5 (sVo σ 1)]; split <;> omega
                      have e8 : sHo σ 1 = H := by unfold sHo; rw [e9, hH]
                      exact ⟨hg, a_6, a_13, a_21, by rw [e9, e8]; exact gq, gv, by rw [e8]; exact gs, by rw [e8]; exact gb⟩
                    · refine j_aload_n (pc := 130) dX13_init_130 rfl ?_
                      refine j_aload_n (pc := 131) dX13_init_131 rfl ?_
                      refine j2_get fa_X13_64_X9 (show g (ad 12 0 0) = some (pO 7 [IV (σ.1 15), IV (σ.1 16), IV (σ.1 17), .ref (ad 13 0 0), .ref (ad 14 0 0), .ref (ad 15 0 0), .ref (ad 16 0 0), .ref (ad 17 0 0), .ref (ad 18 0 0), IV (σ.1 14)]) from hg.at 12 0 0 ⟨hz, rfl, rfl⟩) rfl dX13_init_132 ?_
                      have n_38 : 0 ≤ σ.1 17 ∧ σ.1 17 ≤ 1 := hB.1 17
                      refine j_callV (pc := 135) (c_next g q a_6 a_13 a_21 (n : Int) H.2.2.1 H.2.2.2 (sVo σ 1) H.1 gq gv gs hok (σ.1 17) ho hnu9 ne_9) (lw_V q240 q242 qs3 q77 q243) rfl md_yX13_next (RC.of2 gq rfl) (by decide) (by decide) rfl (Nat.le_of_ble_eq_true rfl) dX13_init_135 (qI.k (fun r_135 s_135 q_135 => ?_))
                      obtain ⟨e1q_135, e2q_135⟩ := q_135
                      subst r_135
                      have hx9 := hNx_rng (sVo σ 1) (σ.1 17) (H.1, H.1, H.2.2.1, H.2.2.2) hnu9.1
                      have z_39 : s_135 a_6 = some (pA 0 5 (sVo σ 1)) := by rw [e2q_135]; exact upH_d gv (Ne.symm ne_2)
                      have z_40 : s_135 a_13 = some (pA 0 5 H.1) := by rw [e2q_135]; exact upH_d gs (Ne.symm ne_11)
                      have z_41 : s_135 a_21 = some (pA 0 30 H.2.1) := by rw [e2q_135]; exact upH_d gb (Ne.symm ne_23)
                      have z_42 : s_135 q = some (pO 11 [.ref a_6, .ref a_13, .ref a_21, IV (n : Int), IV (H.2.2.1 + (if 1 < (hBT (sVo σ 1) (σ.1 17) H.1 5).2 then 1 else 0)), IV (hLk (sVo σ 1) (σ.1 17) (H.1, H.1, H.2.2.1, H.2.2.2))]) := by rw [e2q_135]; exact upH_self _ _ _
                      have R_43 : Rel K s_135 o ad σ := hg.off e2q_135 fo_q
                      refine j_nameI (fun x_135 ex_135 => ?_)
                      refine j_istore (pc := 138) dX13_init_138 (by decide) (lo' := [some (.ref q), some (.ref (ad 12 0 0)), some (IV 1), some (IV (n : Int)), some (IV x_135)]) rfl ?_
                      refine j_aload_n (pc := 140) dX13_init_140 rfl ?_
                      refine j2_get fa_X13_15_X13 z_42 rfl dX13_init_141 ?_
                      refine j_iload (pc := 144) dX13_init_144 rfl ?_
                      refine j_dup2 (pc := 146) dX13_init_146 rfl rfl ?_
                      refine j2_iald (i := x_135) z_40 (by show 0 ≤ x_135 ∧ x_135 < ((5 : Nat) : Int); omega) dX13_init_147 ?_
                      refine j_iconst (pc := 148) dX13_init_148 rfl ?_
                      refine j_iadd (pc := 149) dX13_init_149 ?_
                      refine j2_iast (i := x_135) z_40 (by show 0 ≤ x_135 ∧ x_135 < ((5 : Nat) : Int); omega) dX13_init_150 (fun h_150 e_150 => ?_)
                      have z_44 : h_150 a_6 = some (pA 0 5 (sVo σ 1)) := by rw [e_150]; exact upH_d z_39 ne_9
                      have z_45 : h_150 a_21 = some (pA 0 30 H.2.1) := by rw [e_150]; exact upH_d z_41 (Ne.symm ne_21)
                      have z_46 : h_150 q = some (pO 11 [.ref a_6, .ref a_13, .ref a_21, IV (n : Int), IV (H.2.2.1 + (if 1 < (hBT (sVo σ 1) (σ.1 17) H.1 5).2 then 1 else 0)), IV (hLk (sVo σ 1) (σ.1 17) (H.1, H.1, H.2.2.1, H.2.2.2))]) := by rw [e_150]; exact upH_d z_42 ne_11
                      have z_47 : h_150 a_13 = some (pA 0 5 (uA H.1 (x_135).toNat ((H.1 (x_135).toNat) + 1))) := by rw [e_150]; exact upH_self _ _ _
                      have R_48 : Rel K h_150 o ad σ := R_43.off e_150 fo_a_13
                      refine j_aload_n (pc := 151) dX13_init_151 rfl ?_
                      refine j2_get fa_X13_18_X13 z_46 rfl dX13_init_152 ?_
                      refine j_aload_n (pc := 155) dX13_init_155 rfl ?_
                      refine j2_get fa_X13_72_X13 z_46 rfl dX13_init_156 ?_
                      refine j_iload (pc := 159) dX13_init_159 rfl ?_
                      refine j2_iast (i := (n : Int)) z_45 (by show 0 ≤ (n : Int) ∧ (n : Int) < ((30 : Nat) : Int); omega) dX13_init_161 (fun h_161 e_161 => ?_)
                      have z_49 : h_161 a_6 = some (pA 0 5 (sVo σ 1)) := by rw [e_161]; exact upH_d z_44 ne_19
                      have z_50 : h_161 q = some (pO 11 [.ref a_6, .ref a_13, .ref a_21, IV (n : Int), IV (H.2.2.1 + (if 1 < (hBT (sVo σ 1) (σ.1 17) H.1 5).2 then 1 else 0)), IV (hLk (sVo σ 1) (σ.1 17) (H.1, H.1, H.2.2.1, H.2.2.2))]) := by rw [e_161]; exact upH_d z_46 ne_23
                      have z_51 : h_161 a_13 = some (pA 0 5 (uA H.1 (x_135).toNat ((H.1 (x_135).toNat) + 1))) := by rw [e_161]; exact upH_d z_47 ne_21
                      have z_52 : h_161 a_21 = some (pA 0 30 (uA H.2.1 n x_135)) := by rw [e_161]; exact upH_self _ _ _
                      have R_53 : Rel K h_161 o ad σ := R_48.off e_161 fo_a_21
                      refine j_aload_n (pc := 162) dX13_init_162 rfl ?_
                      refine j_dup (pc := 163) dX13_init_163 rfl ?_
                      refine j2_get fa_X13_72_X13 z_50 rfl dX13_init_164 ?_
                      refine j_iconst (pc := 167) dX13_init_167 rfl ?_
                      refine j_iadd (pc := 168) dX13_init_168 ?_
                      refine j2_put fp_X13_72_X13 z_50 (by decide) (Nat.le_of_ble_eq_true rfl) rfl rfl dX13_init_169 (fun h_169 e_169 => ?_)
                      have z_54 : h_169 a_6 = some (pA 0 5 (sVo σ 1)) := by rw [e_169]; exact upH_d z_49 (Ne.symm ne_2)
                      have z_55 : h_169 a_13 = some (pA 0 5 (uA H.1 (x_135).toNat ((H.1 (x_135).toNat) + 1))) := by rw [e_169]; exact upH_d z_51 (Ne.symm ne_11)
                      have z_56 : h_169 a_21 = some (pA 0 30 (uA H.2.1 n x_135)) := by rw [e_169]; exact upH_d z_52 (Ne.symm ne_23)
                      have z_57 : h_169 q = some (pO 11 [.ref a_6, .ref a_13, .ref a_21, IV ((n : Int) + 1), IV (H.2.2.1 + (if 1 < (hBT (sVo σ 1) (σ.1 17) H.1 5).2 then 1 else 0)), IV (hLk (sVo σ 1) (σ.1 17) (H.1, H.1, H.2.2.1, H.2.2.2))]) := by rw [e_169]; exact upH_self _ _ _
                      have R_58 : Rel K h_169 o ad σ := R_53.off e_169 fo_q
                      refine j_iinc (pc := 172) dX13_init_172 rfl (by decide) (lo' := [some (.ref q), some (.ref (ad 12 0 0)), some (IV 1), some (IV ((n : Int) + 1)), some (IV x_135)]) rfl ?_
                      refine j_goto (pc := 175) (tgt := 115) dX13_init_175 (by decide) ?_
                      refine j_sub (lo' := [some (.ref q), some (.ref (ad 12 0 0)), some (IV 1), some (IV ((n : Int) + 1)), none]) ⟨Or.inr rfl, Or.inr rfl, Or.inr rfl, Or.inr rfl, Or.inl rfl, trivial⟩ ?_
                      exact j_room (by omega) (by omega) (ih_115 (n + 1) h_169 (hStep (sVo σ 1) (σ.1 17) H n) (by omega) (by omega) (by show hStep (sVo σ 1) (σ.1 17) H n = hStep (sVo σ 1) (σ.1 17) (hN (sVo σ 1) (σ.1 17) (sumN (σ.2 18) 5) n) n; rw [← hH]) (Or.inr (by omega)) R_58 z_57 z_54 (by have h9 := z_55; show _ = some (pA 0 5 (uA H.1 (hNx (sVo σ 1) (σ.1 17) H).toNat (H.1 (hNx (sVo σ 1) (σ.1 17) H).toNat + 1))); rw [show hNx (sVo σ 1) (σ.1 17) H = x_135 from ex_135.symm]; exact h9) (by have h9 := z_56; show _ = some (pA 0 30 (uA H.2.1 n (hNx (sVo σ 1) (σ.1 17) H))); rw [show hNx (sVo σ 1) (σ.1 17) H = x_135 from ex_135.symm]; exact h9))
              exact j_room (by omega) (by omega) (hl_115 _ 0 hx_31 (hN (sVo σ 1) (σ.1 17) (sumN (σ.2 18) 5) 0) (Nat.lt_succ_self _) (by omega) rfl (Or.inl rfl) R_36 z_32 z_35 z_33 z_34)
            · have hk5 : k < 5 := by omega
              have d28 : 0 ≤ σ.2 28 k ∧ σ.2 28 k ≤ 20 := hB.2 28 _
              refine j_aload_n (pc := 69) dX13_init_69 rfl ?_
              refine j2_get fa_X13_30_X9 (show g (ad 12 0 0) = some (pO 7 [IV (σ.1 15), IV (σ.1 16), IV (σ.1 17), .ref (ad 13 0 0), .ref (ad 14 0 0), .ref (ad 15 0 0), .ref (ad 16 0 0), .ref (ad 17 0 0), .ref (ad 18 0 0), IV (σ.1 14)]) from hg.at 12 0 0 ⟨hz, rfl, rfl⟩) rfl dX13_init_70 ?_
              refine j_iload_n (pc := 73) dX13_init_73 rfl ?_
              refine j_callF (pc := 74) (xm := ⟨"java/util/List", "get", "(I)Ljava/lang/Object;"⟩) (l2_get (show g (ad 16 0 0) = some (pL (rg (σ.1 19) (fun q => ad 19 q 0))) from hg.at 16 0 0 ⟨hz, rfl, rfl⟩) (i := (k : Int)) (v := ad 19 k 0) (by omega) (rg_at (by omega) (by omega))) (lw_F q182 q185 q187 q47 q189) hfe.2.2.1 (ci := 2) rfl rfl mdx_yJ2_get (RC.ofL (show g (ad 16 0 0) = some (pL (rg (σ.1 19) (fun q => ad 19 q 0))) from hg.at 16 0 0 ⟨hz, rfl, rfl⟩)) (by decide) (by decide) rfl (Nat.le_of_ble_eq_true rfl) dX13_init_74 (qR.k (fun r_74 s_74 q_74 => ?_))
              obtain ⟨e1q_74, e2q_74⟩ := q_74
              subst r_74
              subst s_74
              refine j2_castS (C := RX10) rfl q200 (show g (ad 19 k 0) = some (pO 8 [.ref (ad 20 k 0), .ref (ad 21 k 0), va_rf (if σ.2 32 k = -1 then none else some (ad 24 k 0)), IV (σ.2 21 k)]) from hg.at 19 k 0 ⟨hz, (by omega), rfl⟩) dX13_init_79 ?_
              refine j_astore (pc := 82) dX13_init_82 (by decide) (lo' := [some (.ref q), some (.ref (ad 12 0 0)), some (IV 1), some (IV (k : Int)), some (.ref (ad 19 k 0))]) rfl ?_
              refine j_aload_n (pc := 84) dX13_init_84 rfl ?_
              refine j_iload_n (pc := 85) dX13_init_85 rfl ?_
              refine j_if_eq (pc := 86) (tgt := 99) dX13_init_86 (by decide) (by decide) (fun c_86 => ?_) (fun c_86 => ?_)
              · exact absurd c_86 (by decide)
              · refine j_aload (pc := 89) dX13_init_89 rfl ?_
                refine j_iconst (pc := 91) dX13_init_91 rfl ?_
                refine j_iconst (pc := 92) dX13_init_92 rfl ?_
                refine j_room (cl' := (b9 - 2) + 2) (sl' := (c9 - 10) + 10) (by omega) (by omega) ?_
                refine j_callV (pc := 93) (c_read g hke hfe hbe hse hne (ad 19 k 0) (ad 20 k 0) (ad 21 k 0) (if σ.2 32 k = -1 then none else some (ad 24 k 0)) (σ.2 21 k) (σ.2 28 k) (fun n => σ.2 27 (20 * k + n)) (fun i => hB.2 27 _) (by omega) 0 0 (by omega) (show g (ad 19 k 0) = some (pO 8 [.ref (ad 20 k 0), .ref (ad 21 k 0), va_rf (if σ.2 32 k = -1 then none else some (ad 24 k 0)), IV (σ.2 21 k)]) from hg.at 19 k 0 ⟨hz, (by omega), rfl⟩) (show g (ad 20 k 0) = some (pL (rg (σ.2 28 k) (fun n => bx K (σ.2 27 (20 * k + n))))) from hg.at 20 k 0 ⟨hz, (by omega), rfl⟩)) (lw_V q201 q202 q203 q70 q204) rfl md_yX10_read (RC.of2 (show g (ad 19 k 0) = some (pO 8 [.ref (ad 20 k 0), .ref (ad 21 k 0), va_rf (if σ.2 32 k = -1 then none else some (ad 24 k 0)), IV (σ.2 21 k)]) from hg.at 19 k 0 ⟨hz, (by omega), rfl⟩) rfl) (by decide) (by decide) rfl (Nat.le_of_ble_eq_true rfl) dX13_init_93 (qR.k (fun r_93 s_93 q_93 => ?_))
                obtain ⟨nb_93, nq_93, nn_93, ne_93, zq_93, zn_93, ko_93⟩ := q_93
                have fo_r_93 : ∀ k i j, live σ k i j → ad k i j ≠ r_93 := fun k i j hl => hg.fresh nq_93 hl
                have fo_nb_93 : ∀ k i j, live σ k i j → ad k i j ≠ nb_93 := fun k i j hl => hg.fresh nn_93 hl
                have Rr93 : Rel K s_93 o ad σ := hg.other ko_93
                refine j_goto (pc := 96) (tgt := 104) dX13_init_96 (by decide) ?_
                refine j_room (cl' := b9 - 2) (sl' := c9 - 10) (Nat.le_refl _) (Nat.le_refl _) ?_
                refine j_callV (pc := 104) (c_hadd s_93 q a_6 nb_93 r_93 a_13 a_21 0 0 (sumN (σ.2 18) 5) 0 vf (rdN (fun n => σ.2 27 (20 * k + n)) 0 (σ.2 28 k).toNat) (ko_93 _ _ gq) (ko_93 _ _ gv) zq_93 zn_93) (lw_V q232 q234 qs1 q77 q235) rfl md_yX13_add (RC.of2 (ko_93 _ _ gq) rfl) (by decide) (by decide) rfl (Nat.le_of_ble_eq_true rfl) dX13_init_104 (qV.k (fun s_104 q_104 => ?_))
                have z_59 : s_104 q = some (pO 11 [.ref a_6, .ref a_13, .ref a_21, IV 0, IV 0, IV (sumN (σ.2 18) 5)]) := by rw [q_104]; exact upH_d (ko_93 _ _ gq) ne_2
                have z_60 : s_104 a_13 = some (pA 0 5 (fun _ => 0)) := by rw [q_104]; exact upH_d (ko_93 _ _ gs) (Ne.symm ne_9)
                have z_61 : s_104 a_21 = some (pA 0 30 (fun _ => 0)) := by rw [q_104]; exact upH_d (ko_93 _ _ gb) (Ne.symm ne_19)
                have z_62 : s_104 r_93 = some (pO 10 [IV 0, .ref nb_93]) := by rw [q_104]; exact upH_k zq_93 (ko_93 _ _ gv) (by intro z; cases z)
                have z_63 : s_104 nb_93 = some (pA 0 6 (rdN (fun n => σ.2 27 (20 * k + n)) 0 (σ.2 28 k).toNat)) := by rw [q_104]; exact upH_k zn_93 (ko_93 _ _ gv) (by intro z; cases z)
                have z_64 : s_104 a_6 = some (pA 0 5 (fun p => vf p + (rdN (fun n => σ.2 27 (20 * k + n)) 0 (σ.2 28 k).toNat) p)) := by rw [q_104]; exact upH_self _ _ _
                have R_65 : Rel K s_104 o ad σ := Rr93.off q_104 fo_a_6
                refine j_iinc (pc := 107) dX13_init_107 rfl (by decide) (lo' := [some (.ref q), some (.ref (ad 12 0 0)), some (IV 1), some (IV ((k : Int) + 1)), some (.ref (ad 19 k 0))]) rfl ?_
                refine j_goto (pc := 110) (tgt := 56) dX13_init_110 (by decide) ?_
                refine j_sub (lo' := [some (.ref q), some (.ref (ad 12 0 0)), some (IV 1), some (IV ((k : Int) + 1)), none]) ⟨Or.inr rfl, Or.inr rfl, Or.inr rfl, Or.inr rfl, Or.inl rfl, trivial⟩ ?_
                exact j_room (Nat.le_refl _) (Nat.le_refl _) (ih_56 (k + 1) s_104 (fun p => vf p + (rdN (fun n => σ.2 27 (20 * k + n)) 0 (σ.2 28 k).toNat) p) (b9 - 2) (c9 - 10) (by omega) (by omega) (by omega) R_65 z_59 z_64 z_60 z_61 (fun p hp => by show vf p + rdN (fun n => σ.2 27 (20 * k + n)) 0 (σ.2 28 k).toNat p = sVoN σ 1 p k + (if (1 : Int) = 0 then σ.2 29 (6 * σ.2 32 k + p).toNat else sBoxed σ k p); rw [hv9 p hp, if_neg (by decide), rdN_sInB hB]; rfl))
        exact j_room (by omega) (by omega) (hl_56 _ 0 g (fun _ => 0) 10 50 (Nat.lt_succ_self _) (by omega) (by omega) hg (by rw [e5] at gq; exact gq) gv gs gb (fun _ _ => rfl))
      · refine j_aload_n (pc := 33) dX13_init_33 rfl ?_
        refine j_dup (pc := 34) dX13_init_34 rfl ?_
        refine j2_get fa_X13_21_X13 gq rfl dX13_init_35 ?_
        refine j_aload_n (pc := 38) dX13_init_38 rfl ?_
        refine j2_get fa_X13_25_X9 (show g (ad 12 0 0) = some (pO 7 [IV (σ.1 15), IV (σ.1 16), IV (σ.1 17), .ref (ad 13 0 0), .ref (ad 14 0 0), .ref (ad 15 0 0), .ref (ad 16 0 0), .ref (ad 17 0 0), .ref (ad 18 0 0), IV (σ.1 14)]) from hg.at 12 0 0 ⟨hz, rfl, rfl⟩) rfl dX13_init_39 ?_
        refine j_iload_n (pc := 42) dX13_init_42 rfl ?_
        refine j2_iald (i := (k : Int)) (show g (ad 13 0 0) = some (pA 0 5 (σ.2 18)) from hg.at 13 0 0 ⟨hz, rfl, rfl⟩) (by show 0 ≤ (k : Int) ∧ (k : Int) < ((5 : Nat) : Int); omega) dX13_init_43 ?_
        refine j_eqI (σ.2 18 k) rfl ?_
        have n_66 : 0 ≤ σ.2 18 k ∧ σ.2 18 k ≤ 9999 := hB.2 18 k
        refine j_iadd (pc := 44) dX13_init_44 ?_
        refine j2_put fp_X13_21_X13 gq (by decide) (Nat.le_of_ble_eq_true rfl) rfl rfl dX13_init_45 (fun h_45 e_45 => ?_)
        have z_67 : h_45 a_6 = some (pA 0 5 (fun _ => 0)) := by rw [e_45]; exact upH_d gv (Ne.symm ne_2)
        have z_68 : h_45 a_13 = some (pA 0 5 (fun _ => 0)) := by rw [e_45]; exact upH_d gs (Ne.symm ne_11)
        have z_69 : h_45 a_21 = some (pA 0 30 (fun _ => 0)) := by rw [e_45]; exact upH_d gb (Ne.symm ne_23)
        have z_70 : h_45 q = some (pO 11 [.ref a_6, .ref a_13, .ref a_21, IV 0, IV 0, IV ((sumN (σ.2 18) k) + (σ.2 18 k))]) := by rw [e_45]; exact upH_self _ _ _
        have R_71 : Rel K h_45 o ad σ := hg.off e_45 fo_q
        refine j_iinc (pc := 48) dX13_init_48 rfl (by decide) (lo' := [some (.ref q), some (.ref (ad 12 0 0)), some (IV 1), some (IV ((k : Int) + 1)), none]) rfl ?_
        refine j_goto (pc := 51) (tgt := 28) dX13_init_51 (by decide) ?_
        exact j_room (by omega) (by omega) (ih_28 (k + 1) h_45 (by omega) (by omega) R_71 z_70 z_67 z_68 z_69)
  exact j_room (by omega) (by omega) (hl_28 _ 0 h_23 (Nat.lt_succ_self _) (by omega) R_30 z_29 z_26 z_27 z_28)

theorem fn_X1_272_X13 : FN RX1 272 11 6 [.null, .null, .null, IV 0, IV 0, IV 0] := ⟨RX13, TX13, tyX13, rfl, in_X13, tyX13_ok, q173, q174, q77, fun j hj => by rcases (show j = 0 ∨ j = 1 ∨ j = 2 ∨ j = 3 ∨ j = 4 ∨ j = 5 by omega) with rfl | rfl | rfl | rfl | rfl | rfl <;> rfl⟩
theorem md_yX13_init : MD yX13_init 2 := by decide +kernel
set_option maxHeartbeats 4000000 in
theorem c_house {Γ : GG} {A : Nat → Prop} {K : KK} {l : Launch} (h : AL2) (hke : KE Γ A K) (hfe : FE Γ) (hbe : BE Γ A K) (hse : SE Γ A K) (hne : NE Γ) (o : Nat) (ad : AD) (σ : MM) (hR : Rel K h o ad σ) (hB : Bd σ) (hI : In σ) : Ct Γ A (Rep2 Γ A K) l yX1_house (ws_ yX1_house cX1_house 1 (some (.object "BallotFoundry$House"))) 9 18 110 [.ref o] h (qN (fun (r : Option Nat) (h' : AL2) => Rel K h' o ad σ ∧ ((σ.1 14 = 5 ∧ ∃ q bv bs bg, r = some q ∧ h' q = some (pO 11 [.ref bv, .ref bs, .ref bg, IV (sHn σ 0), IV ((sHo σ 0).2.2.1), IV ((sHo σ 0).2.2.2)]) ∧ h' bv = some (pA 0 5 (sVo σ 0)) ∧ h' bs = some (pA 0 5 (sHo σ 0).1) ∧ h' bg = some (pA 0 30 (sHo σ 0).2.1)) ∨ (σ.1 14 ≠ 5 ∧ r = none)))) X0 := by
  refine Ct.ofJ (own := RX1) (nm := "house") (lo := [some (.ref o)]) pn_X1 rfl rfl (List.forall_mem_cons.mpr ⟨rfl, (fun _ h => nomatch h)⟩) (Nat.le_of_ble_eq_true rfl) rfl ?_
  have hQ : ∀ (r : Option Nat) (h' : AL2), (Rel K h' o ad σ ∧ ((σ.1 14 = 5 ∧ ∃ q bv bs bg, r = some q ∧ h' q = some (pO 11 [.ref bv, .ref bs, .ref bg, IV (sHn σ 0), IV ((sHo σ 0).2.2.1), IV ((sHo σ 0).2.2.2)]) ∧ h' bv = some (pA 0 5 (sVo σ 0)) ∧ h' bs = some (pA 0 5 (sHo σ 0).1) ∧ h' bg = some (pA 0 30 (sHo σ 0).2.1)) ∨ (σ.1 14 ≠ 5 ∧ r = none))) → (qN (fun (r : Option Nat) (h' : AL2) => Rel K h' o ad σ ∧ ((σ.1 14 = 5 ∧ ∃ q bv bs bg, r = some q ∧ h' q = some (pO 11 [.ref bv, .ref bs, .ref bg, IV (sHn σ 0), IV ((sHo σ 0).2.2.1), IV ((sHo σ 0).2.2.2)]) ∧ h' bv = some (pA 0 5 (sVo σ 0)) ∧ h' bs = some (pA 0 5 (sHo σ 0).1) ∧ h' bg = some (pA 0 30 (sHo σ 0).2.1)) ∨ (σ.1 14 ≠ 5 ∧ r = none)))) (some (va_rf r)) h' := fun r h' h => ⟨r, rfl, h⟩
  generalize (qN (fun (r : Option Nat) (h' : AL2) => Rel K h' o ad σ ∧ ((σ.1 14 = 5 ∧ ∃ q bv bs bg, r = some q ∧ h' q = some (pO 11 [.ref bv, .ref bs, .ref bg, IV (sHn σ 0), IV ((sHo σ 0).2.2.1), IV ((sHo σ 0).2.2.2)]) ∧ h' bv = some (pA 0 5 (sVo σ 0)) ∧ h' bs = some (pA 0 5 (sHo σ 0).1) ∧ h' bg = some (pA 0 30 (sHo σ 0).2.1)) ∨ (σ.1 14 ≠ 5 ∧ r = none)))) = QP at hQ ⊢
  refine j_aload_n (pc := 0) dX1_house_0 rfl ?_
  refine j_callV (pc := 1) (c_stage h o ad σ hR hB) (lw_V q172 q147 q148 q44 q149) rfl md_yX1_stage (RC.of2 (show h (o) = some (pO 0 [.ref (ad 1 0 0), .ref (ad 2 0 0), .ref (ad 3 0 0), .ref (ad 4 0 0), va_rf (if σ.1 14 = 0 then none else some (ad 12 0 0)), IV (σ.1 0), .ref (ad 5 0 0), .ref (ad 6 0 0)]) from hR.top) rfl) (by decide) (by decide) rfl (Nat.le_of_ble_eq_true rfl) dX1_house_1 (qI.k (fun r_1 s_1 q_1 => ?_))
  obtain ⟨e1q_1, e2q_1⟩ := q_1
  subst r_1
  subst s_1
  have n14_1 : 0 ≤ σ.1 14 ∧ σ.1 14 ≤ 5 := hB.1 14
  refine j_iconst (pc := 4) dX1_house_4 rfl ?_
  refine j_icmp_ne (pc := 5) (tgt := 23) dX1_house_5 (by decide) (by omega) (by decide) (fun c_5 => ?_) (fun c_5 => ?_)
  · refine j_null (pc := 23) dX1_house_23 ?_
    refine j_nret (pc := 24) rfl (by first | exact Or.inl ⟨_, rfl⟩ | exact Or.inr ⟨_, rfl⟩) (hQ none _ ?_) dX1_house_24
    exact ⟨hR, Or.inr ⟨by omega, rfl⟩⟩
  · have hz : σ.1 14 ≠ 0 := by omega
    refine j_room (cl' := 17 + 1) (sl' := 104 + 6) (by omega) (by omega) ?_
    refine j2_new hke.1 (Or.inl (by decide)) fn_X1_272_X13 dX1_house_8 (fun a_8 h_8 n_8 e_8 => ?_)
    have z_1 : h_8 a_8 = some (pO 11 [.null, .null, .null, IV 0, IV 0, IV 0]) := by rw [e_8]; exact upH_self _ _ _
    have fo_a_8 : ∀ k i j, live σ k i j → ad k i j ≠ a_8 := fun k i j hl => hR.fresh n_8 hl
    have R_2 : Rel K h_8 o ad σ := hR.other (fun b c hb => by rw [e_8]; exact upH_old hb n_8)
    refine j_dup (pc := 11) dX1_house_11 rfl ?_
    refine j_aload_n (pc := 12) dX1_house_12 rfl ?_
    refine j2_get fa_X1_58_X1 (show h_8 (o) = some (pO 0 [.ref (ad 1 0 0), .ref (ad 2 0 0), .ref (ad 3 0 0), .ref (ad 4 0 0), .ref (ad 12 0 0), IV (σ.1 0), .ref (ad 5 0 0), .ref (ad 6 0 0)]) from R_2.top1 hz) rfl dX1_house_13 ?_
    refine j_iconst (pc := 16) dX1_house_16 rfl ?_
    refine j_room (cl' := 1 + 16) (sl' := 4 + 100) (by omega) (by omega) ?_
    refine j_callI (pc := 17) (c_house0 h_8 hke hfe hbe hse hne o ad σ R_2 hB hz a_8 fo_a_8 z_1 (fun k hk => hI.s4 (by omega) k hk)) (lw_meth q177) q77 q175 q176 rfl md_yX13_init (by decide) (by decide) rfl (Nat.le_of_ble_eq_true rfl) dX1_house_17 (qV.k (fun s_17 q_17 => ?_))
    obtain ⟨R_h17, bv_17, bs_17, bg_17, H1_17, H2_17, H3_17, H4_17⟩ := q_17
    refine j_goto (pc := 20) (tgt := 24) dX1_house_20 (by decide) ?_
    refine j_aret (pc := 24) rfl (by first | exact Or.inl ⟨_, rfl⟩ | exact Or.inr ⟨_, rfl⟩) (hQ (some _) _ ?_) dX1_house_24
    exact ⟨R_h17, Or.inl ⟨by omega, a_8, bv_17, bs_17, bg_17, rfl, H1_17, H2_17, H3_17, H4_17⟩⟩

theorem md_yX1_house : MD yX1_house 0 := by decide +kernel
set_option maxHeartbeats 4000000 in
theorem c_votes {Γ : GG} {A : Nat → Prop} {K : KK} {l : Launch} (h : AL2) (hfl : l.stackTraces = false) (hke : KE Γ A K) (hfe : FE Γ) (hIOB : TH5 Γ A "java/lang/IndexOutOfBoundsException") (hIAE : TH5 Γ A "java/lang/IllegalArgumentException") (hISE : TH5 Γ A "java/lang/IllegalStateException") (o : Nat) (ad : AD) (σ : MM) (hR : Rel K h o ad σ) (hB : Bd σ) (p : Int) (hp : RR p) (hbe : BE Γ A K) (hse : SE Γ A K) (hne : NE Γ) (hI : In σ) : Ct Γ A (Rep2 Γ A K) l yX1_votes (ws_ yX1_votes cX1_votes 3 (some .int)) 12 22 130 [.ref o, IV p] h (qI (fun (r : Int) (h' : AL2) => t1 (0 ≤ p ∧ p ≤ 4) = 0 ∧ r = (if σ.1 14 = 5 then sVo σ 0 p.toNat else -1) ∧ ∃ ad', Rel K h' o ad' (σ))) (fun (E : String) (h' : AL2) => xE ["java/lang/IndexOutOfBoundsException"] (t1 (0 ≤ p ∧ p ≤ 4)) E ∧ ∃ ad', Rel K h' o ad' σ) := by
  refine Ct.ofJ (own := RX1) (nm := "votes") (lo := [some (.ref o), some (IV p), none]) pn_X1 rfl rfl (List.forall_mem_cons.mpr ⟨rfl, (List.forall_mem_cons.mpr ⟨rfl, (fun _ h => nomatch h)⟩)⟩) (Nat.le_of_ble_eq_true rfl) rfl ?_
  have hQ : ∀ (r : Int) (h' : AL2), (t1 (0 ≤ p ∧ p ≤ 4) = 0 ∧ r = (if σ.1 14 = 5 then sVo σ 0 p.toNat else -1) ∧ ∃ ad', Rel K h' o ad' (σ)) → (qI (fun (r : Int) (h' : AL2) => t1 (0 ≤ p ∧ p ≤ 4) = 0 ∧ r = (if σ.1 14 = 5 then sVo σ 0 p.toNat else -1) ∧ ∃ ad', Rel K h' o ad' (σ))) (some (IV r)) h' := fun r h' h => ⟨r, rfl, h⟩
  generalize (qI (fun (r : Int) (h' : AL2) => t1 (0 ≤ p ∧ p ≤ 4) = 0 ∧ r = (if σ.1 14 = 5 then sVo σ 0 p.toNat else -1) ∧ ∃ ad', Rel K h' o ad' (σ))) = QP at hQ ⊢
  have hX : ∀ (E : String) (h' : AL2), (xE ["java/lang/IndexOutOfBoundsException"] (t1 (0 ≤ p ∧ p ≤ 4)) E ∧ ∃ ad', Rel K h' o ad' σ) → (fun (E : String) (h' : AL2) => xE ["java/lang/IndexOutOfBoundsException"] (t1 (0 ≤ p ∧ p ≤ 4)) E ∧ ∃ ad', Rel K h' o ad' σ) E h' := fun E h' h => h
  generalize (fun (E : String) (h' : AL2) => xE ["java/lang/IndexOutOfBoundsException"] (t1 (0 ≤ p ∧ p ≤ 4)) E ∧ ∃ ad', Rel K h' o ad' σ) = XP at hX ⊢
  refine j_iconst (pc := 0) dX1_votes_0 rfl ?_
  refine j_room (cl' := 21 + 1) (sl' := 128 + 2) (by omega) (by omega) ?_
  refine j2_newa (i := 2) (N := 2) (atype := .int) hke.1 (Or.inl ⟨rfl, rfl⟩) q141 (by omega) (by omega) (by omega) dX1_votes_1 (fun a_1 h_1 n_1 e_1 => ?_)
  have z_1 : h_1 a_1 = some (pA 0 2 (fun _ => 0)) := by rw [e_1]; exact upH_self _ _ _
  have fo_a_1 : ∀ k i j, live σ k i j → ad k i j ≠ a_1 := fun k i j hl => hR.fresh n_1 hl
  have R_2 : Rel K h_1 o ad σ := hR.other (fun b c hb => by rw [e_1]; exact upH_old hb n_1)
  refine j_dup (pc := 3) dX1_votes_3 rfl ?_
  refine j_iconst (pc := 4) dX1_votes_4 rfl ?_
  refine j_iload_n (pc := 5) dX1_votes_5 rfl ?_
  refine j2_iast (i := 0) z_1 (by show 0 ≤ 0 ∧ 0 < ((2 : Nat) : Int); omega) dX1_votes_6 (fun h_6 e_6 => ?_)
  have z_3 : h_6 a_1 = some (pA 0 2 (uA (fun _ => 0) 0 p)) := by rw [e_6]; exact upH_self _ _ _
  have R_4 : Rel K h_6 o ad σ := R_2.off e_6 fo_a_1
  refine j_dup (pc := 7) dX1_votes_7 rfl ?_
  refine j_iconst (pc := 8) dX1_votes_8 rfl ?_
  refine j_iconst (pc := 9) dX1_votes_9 rfl ?_
  refine j2_iast (i := 1) z_3 (by show 0 ≤ 1 ∧ 1 < ((2 : Nat) : Int); omega) dX1_votes_10 (fun h_10 e_10 => ?_)
  have z_5 : h_10 a_1 = some (pA 0 2 (uA (uA (fun _ => 0) 0 p) 1 5)) := by rw [e_10]; exact upH_self _ _ _
  have R_6 : Rel K h_10 o ad σ := R_4.off e_10 fo_a_1
  refine j_room (cl' := 20 + 1) (sl' := 122 + 6) (by omega) (by omega) ?_
  refine j_callSx (pc := 11) (c_exist h_10 hfl RG.of2 hIOB a_1 1 (uA (uA (fun _ => 0) 0 p) 1 5) (rrA (rrA rr0 (by omega)) (by decide)) (by decide) z_5) (lw_S q370 q371 q44 q372) md_yX1_exist (nT _) (fun E x9 hx9 => by obtain ⟨rfl, hn9, rfl⟩ := hx9; rw [ex1] at hn9; exact hX _ _ ⟨xE_of 0 (by unfold t1; (repeat' split) <;> omega) rfl, ad, R_6⟩) (by decide) (by decide) rfl (Nat.le_of_ble_eq_true rfl) dX1_votes_11 (qV.k (fun s_11 q_11 => ?_))
  obtain ⟨q_11a, q_11e⟩ := q_11
  subst s_11
  have q_11b := ex1.mp q_11a
  refine j_aload_n (pc := 14) dX1_votes_14 rfl ?_
  refine j_room (cl' := 2 + 18) (sl' := 12 + 110) (by omega) (by omega) ?_
  refine j_callV (pc := 15) (c_house h_10 hke hfe hbe hse hne o ad σ R_6 hB hI) (lw_V q168 q170 qs0 q44 q171) rfl md_yX1_house (RC.of2 (show h_10 (o) = some (pO 0 [.ref (ad 1 0 0), .ref (ad 2 0 0), .ref (ad 3 0 0), .ref (ad 4 0 0), va_rf (if σ.1 14 = 0 then none else some (ad 12 0 0)), IV (σ.1 0), .ref (ad 5 0 0), .ref (ad 6 0 0)]) from R_6.top) rfl) (by decide) (by decide) rfl (Nat.le_of_ble_eq_true rfl) dX1_votes_15 (qN.k (fun r_15 s_15 q_15 => ?_))
  obtain ⟨R_z15, q_15c⟩ := q_15
  rcases q_15c with ⟨h14, q_h15, bv_15, bs_15, bg_15, e1q_15, H1_15, H2_15, H3_15, H4_15⟩ | ⟨h14, e1q_15⟩
  · subst r_15
    refine j_astore_n (pc := 18) dX1_votes_18 (by decide) (lo' := [some (.ref o), some (IV p), some (.ref q_h15)]) rfl ?_
    refine j_aload_n (pc := 19) dX1_votes_19 rfl ?_
    refine j_ifnonnull (pc := 20) (tgt := 27) dX1_votes_20 (by decide) ?_
    refine j_aload_n (pc := 27) dX1_votes_27 rfl ?_
    refine j2_getN (T := TX13) (N := 6) (k0 := 0) (ref := "BallotFoundry$House") (by rfl) in_X13 (by decide) hne.2.2.1 (Or.inl rfl) H1_15 rfl dX1_votes_28 ?_
    refine j_iload_n (pc := 31) dX1_votes_31 rfl ?_
    refine j2_iald (i := p) H2_15 (by show 0 ≤ p ∧ p < ((5 : Nat) : Int); omega) dX1_votes_32 ?_
    refine j_iret (pc := 33) rfl (hQ _ _ ?_) dX1_votes_33
    exact ⟨by unfold t1; (repeat' split) <;> omega, by rw [if_pos h14], ad, R_z15⟩
  · subst r_15
    refine j_astore_nR (pc := 18) (r := none) dX1_votes_18 (by decide) (lo' := [some (.ref o), some (IV p), some (.null)]) rfl ?_
    refine j_aload_nR (pc := 19) (r := none) dX1_votes_19 rfl ?_
    refine j_ifnonnullN (pc := 20) dX1_votes_20 ?_
    refine j_iconst (pc := 23) dX1_votes_23 rfl ?_
    refine j_goto (pc := 24) (tgt := 33) dX1_votes_24 (by decide) ?_
    refine j_iret (pc := 33) rfl (hQ _ _ ?_) dX1_votes_33
    exact ⟨by unfold t1; (repeat' split) <;> omega, by rw [if_neg h14], ad, R_z15⟩

set_option maxHeartbeats 4000000 in
theorem c_seats {Γ : GG} {A : Nat → Prop} {K : KK} {l : Launch} (h : AL2) (hfl : l.stackTraces = false) (hke : KE Γ A K) (hfe : FE Γ) (hIOB : TH5 Γ A "java/lang/IndexOutOfBoundsException") (hIAE : TH5 Γ A "java/lang/IllegalArgumentException") (hISE : TH5 Γ A "java/lang/IllegalStateException") (o : Nat) (ad : AD) (σ : MM) (hR : Rel K h o ad σ) (hB : Bd σ) (p : Int) (hp : RR p) (hbe : BE Γ A K) (hse : SE Γ A K) (hne : NE Γ) (hI : In σ) : Ct Γ A (Rep2 Γ A K) l yX1_seats (ws_ yX1_seats cX1_seats 3 (some .int)) 12 22 130 [.ref o, IV p] h (qI (fun (r : Int) (h' : AL2) => t1 (0 ≤ p ∧ p ≤ 4) = 0 ∧ r = (if σ.1 14 = 5 then (sHo σ 0).1 p.toNat else -1) ∧ ∃ ad', Rel K h' o ad' (σ))) (fun (E : String) (h' : AL2) => xE ["java/lang/IndexOutOfBoundsException"] (t1 (0 ≤ p ∧ p ≤ 4)) E ∧ ∃ ad', Rel K h' o ad' σ) := by
  refine Ct.ofJ (own := RX1) (nm := "seats") (lo := [some (.ref o), some (IV p), none]) pn_X1 rfl rfl (List.forall_mem_cons.mpr ⟨rfl, (List.forall_mem_cons.mpr ⟨rfl, (fun _ h => nomatch h)⟩)⟩) (Nat.le_of_ble_eq_true rfl) rfl ?_
  have hQ : ∀ (r : Int) (h' : AL2), (t1 (0 ≤ p ∧ p ≤ 4) = 0 ∧ r = (if σ.1 14 = 5 then (sHo σ 0).1 p.toNat else -1) ∧ ∃ ad', Rel K h' o ad' (σ)) → (qI (fun (r : Int) (h' : AL2) => t1 (0 ≤ p ∧ p ≤ 4) = 0 ∧ r = (if σ.1 14 = 5 then (sHo σ 0).1 p.toNat else -1) ∧ ∃ ad', Rel K h' o ad' (σ))) (some (IV r)) h' := fun r h' h => ⟨r, rfl, h⟩
  generalize (qI (fun (r : Int) (h' : AL2) => t1 (0 ≤ p ∧ p ≤ 4) = 0 ∧ r = (if σ.1 14 = 5 then (sHo σ 0).1 p.toNat else -1) ∧ ∃ ad', Rel K h' o ad' (σ))) = QP at hQ ⊢
  have hX : ∀ (E : String) (h' : AL2), (xE ["java/lang/IndexOutOfBoundsException"] (t1 (0 ≤ p ∧ p ≤ 4)) E ∧ ∃ ad', Rel K h' o ad' σ) → (fun (E : String) (h' : AL2) => xE ["java/lang/IndexOutOfBoundsException"] (t1 (0 ≤ p ∧ p ≤ 4)) E ∧ ∃ ad', Rel K h' o ad' σ) E h' := fun E h' h => h
  generalize (fun (E : String) (h' : AL2) => xE ["java/lang/IndexOutOfBoundsException"] (t1 (0 ≤ p ∧ p ≤ 4)) E ∧ ∃ ad', Rel K h' o ad' σ) = XP at hX ⊢
  refine j_iconst (pc := 0) dX1_seats_0 rfl ?_
  refine j_room (cl' := 21 + 1) (sl' := 128 + 2) (by omega) (by omega) ?_
  refine j2_newa (i := 2) (N := 2) (atype := .int) hke.1 (Or.inl ⟨rfl, rfl⟩) q141 (by omega) (by omega) (by omega) dX1_seats_1 (fun a_1 h_1 n_1 e_1 => ?_)
  have z_1 : h_1 a_1 = some (pA 0 2 (fun _ => 0)) := by rw [e_1]; exact upH_self _ _ _
  have fo_a_1 : ∀ k i j, live σ k i j → ad k i j ≠ a_1 := fun k i j hl => hR.fresh n_1 hl
  have R_2 : Rel K h_1 o ad σ := hR.other (fun b c hb => by rw [e_1]; exact upH_old hb n_1)
  refine j_dup (pc := 3) dX1_seats_3 rfl ?_
  refine j_iconst (pc := 4) dX1_seats_4 rfl ?_
  refine j_iload_n (pc := 5) dX1_seats_5 rfl ?_
  refine j2_iast (i := 0) z_1 (by show 0 ≤ 0 ∧ 0 < ((2 : Nat) : Int); omega) dX1_seats_6 (fun h_6 e_6 => ?_)
  have z_3 : h_6 a_1 = some (pA 0 2 (uA (fun _ => 0) 0 p)) := by rw [e_6]; exact upH_self _ _ _
  have R_4 : Rel K h_6 o ad σ := R_2.off e_6 fo_a_1
  refine j_dup (pc := 7) dX1_seats_7 rfl ?_
  refine j_iconst (pc := 8) dX1_seats_8 rfl ?_
  refine j_iconst (pc := 9) dX1_seats_9 rfl ?_
  refine j2_iast (i := 1) z_3 (by show 0 ≤ 1 ∧ 1 < ((2 : Nat) : Int); omega) dX1_seats_10 (fun h_10 e_10 => ?_)
  have z_5 : h_10 a_1 = some (pA 0 2 (uA (uA (fun _ => 0) 0 p) 1 5)) := by rw [e_10]; exact upH_self _ _ _
  have R_6 : Rel K h_10 o ad σ := R_4.off e_10 fo_a_1
  refine j_room (cl' := 20 + 1) (sl' := 122 + 6) (by omega) (by omega) ?_
  refine j_callSx (pc := 11) (c_exist h_10 hfl RG.of2 hIOB a_1 1 (uA (uA (fun _ => 0) 0 p) 1 5) (rrA (rrA rr0 (by omega)) (by decide)) (by decide) z_5) (lw_S q370 q371 q44 q372) md_yX1_exist (nT _) (fun E x9 hx9 => by obtain ⟨rfl, hn9, rfl⟩ := hx9; rw [ex1] at hn9; exact hX _ _ ⟨xE_of 0 (by unfold t1; (repeat' split) <;> omega) rfl, ad, R_6⟩) (by decide) (by decide) rfl (Nat.le_of_ble_eq_true rfl) dX1_seats_11 (qV.k (fun s_11 q_11 => ?_))
  obtain ⟨q_11a, q_11e⟩ := q_11
  subst s_11
  have q_11b := ex1.mp q_11a
  refine j_aload_n (pc := 14) dX1_seats_14 rfl ?_
  refine j_room (cl' := 2 + 18) (sl' := 12 + 110) (by omega) (by omega) ?_
  refine j_callV (pc := 15) (c_house h_10 hke hfe hbe hse hne o ad σ R_6 hB hI) (lw_V q168 q170 qs0 q44 q171) rfl md_yX1_house (RC.of2 (show h_10 (o) = some (pO 0 [.ref (ad 1 0 0), .ref (ad 2 0 0), .ref (ad 3 0 0), .ref (ad 4 0 0), va_rf (if σ.1 14 = 0 then none else some (ad 12 0 0)), IV (σ.1 0), .ref (ad 5 0 0), .ref (ad 6 0 0)]) from R_6.top) rfl) (by decide) (by decide) rfl (Nat.le_of_ble_eq_true rfl) dX1_seats_15 (qN.k (fun r_15 s_15 q_15 => ?_))
  obtain ⟨R_z15, q_15c⟩ := q_15
  rcases q_15c with ⟨h14, q_h15, bv_15, bs_15, bg_15, e1q_15, H1_15, H2_15, H3_15, H4_15⟩ | ⟨h14, e1q_15⟩
  · subst r_15
    refine j_astore_n (pc := 18) dX1_seats_18 (by decide) (lo' := [some (.ref o), some (IV p), some (.ref q_h15)]) rfl ?_
    refine j_aload_n (pc := 19) dX1_seats_19 rfl ?_
    refine j_ifnonnull (pc := 20) (tgt := 27) dX1_seats_20 (by decide) ?_
    refine j_aload_n (pc := 27) dX1_seats_27 rfl ?_
    refine j2_getN (T := TX13) (N := 6) (k0 := 1) (ref := "BallotFoundry$House") (by rfl) in_X13 (by decide) hne.2.2.2.1 (Or.inl rfl) H1_15 rfl dX1_seats_28 ?_
    refine j_iload_n (pc := 31) dX1_seats_31 rfl ?_
    refine j2_iald (i := p) H3_15 (by show 0 ≤ p ∧ p < ((5 : Nat) : Int); omega) dX1_seats_32 ?_
    refine j_iret (pc := 33) rfl (hQ _ _ ?_) dX1_seats_33
    exact ⟨by unfold t1; (repeat' split) <;> omega, by rw [if_pos h14], ad, R_z15⟩
  · subst r_15
    refine j_astore_nR (pc := 18) (r := none) dX1_seats_18 (by decide) (lo' := [some (.ref o), some (IV p), some (.null)]) rfl ?_
    refine j_aload_nR (pc := 19) (r := none) dX1_seats_19 rfl ?_
    refine j_ifnonnullN (pc := 20) dX1_seats_20 ?_
    refine j_iconst (pc := 23) dX1_seats_23 rfl ?_
    refine j_goto (pc := 24) (tgt := 33) dX1_seats_24 (by decide) ?_
    refine j_iret (pc := 33) rfl (hQ _ _ ?_) dX1_seats_33
    exact ⟨by unfold t1; (repeat' split) <;> omega, by rw [if_neg h14], ad, R_z15⟩

set_option maxHeartbeats 4000000 in
theorem c_seatAt {Γ : GG} {A : Nat → Prop} {K : KK} {l : Launch} (h : AL2) (hfl : l.stackTraces = false) (hke : KE Γ A K) (hfe : FE Γ) (hIOB : TH5 Γ A "java/lang/IndexOutOfBoundsException") (hIAE : TH5 Γ A "java/lang/IllegalArgumentException") (hISE : TH5 Γ A "java/lang/IllegalStateException") (o : Nat) (ad : AD) (σ : MM) (hR : Rel K h o ad σ) (hB : Bd σ) (p : Int) (hp : RR p) (hbe : BE Γ A K) (hse : SE Γ A K) (hne : NE Γ) (hI : In σ) : Ct Γ A (Rep2 Γ A K) l yX1_seatAt (ws_ yX1_seatAt cX1_seatAt 3 (some .int)) 12 22 130 [.ref o, IV p] h (qI (fun (r : Int) (h' : AL2) => t1 (0 ≤ p) = 0 ∧ r = (if σ.1 14 = 5 ∧ p < sHn σ 0 then (sHo σ 0).2.1 p.toNat else -1) ∧ ∃ ad', Rel K h' o ad' (σ))) (fun (E : String) (h' : AL2) => xE ["java/lang/IndexOutOfBoundsException"] (t1 (0 ≤ p)) E ∧ ∃ ad', Rel K h' o ad' σ) := by
  refine Ct.ofJ (own := RX1) (nm := "seatAt") (lo := [some (.ref o), some (IV p), none]) pn_X1 rfl rfl (List.forall_mem_cons.mpr ⟨rfl, (List.forall_mem_cons.mpr ⟨rfl, (fun _ h => nomatch h)⟩)⟩) (Nat.le_of_ble_eq_true rfl) rfl ?_
  have hQ : ∀ (r : Int) (h' : AL2), (t1 (0 ≤ p) = 0 ∧ r = (if σ.1 14 = 5 ∧ p < sHn σ 0 then (sHo σ 0).2.1 p.toNat else -1) ∧ ∃ ad', Rel K h' o ad' (σ)) → (qI (fun (r : Int) (h' : AL2) => t1 (0 ≤ p) = 0 ∧ r = (if σ.1 14 = 5 ∧ p < sHn σ 0 then (sHo σ 0).2.1 p.toNat else -1) ∧ ∃ ad', Rel K h' o ad' (σ))) (some (IV r)) h' := fun r h' h => ⟨r, rfl, h⟩
  generalize (qI (fun (r : Int) (h' : AL2) => t1 (0 ≤ p) = 0 ∧ r = (if σ.1 14 = 5 ∧ p < sHn σ 0 then (sHo σ 0).2.1 p.toNat else -1) ∧ ∃ ad', Rel K h' o ad' (σ))) = QP at hQ ⊢
  have hX : ∀ (E : String) (h' : AL2), (xE ["java/lang/IndexOutOfBoundsException"] (t1 (0 ≤ p)) E ∧ ∃ ad', Rel K h' o ad' σ) → (fun (E : String) (h' : AL2) => xE ["java/lang/IndexOutOfBoundsException"] (t1 (0 ≤ p)) E ∧ ∃ ad', Rel K h' o ad' σ) E h' := fun E h' h => h
  generalize (fun (E : String) (h' : AL2) => xE ["java/lang/IndexOutOfBoundsException"] (t1 (0 ≤ p)) E ∧ ∃ ad', Rel K h' o ad' σ) = XP at hX ⊢
  have hs30 := sHn_le hB 0
  refine j_iconst (pc := 0) dX1_seatAt_0 rfl ?_
  refine j_room (cl' := 21 + 1) (sl' := 128 + 2) (by omega) (by omega) ?_
  refine j2_newa (i := 2) (N := 2) (atype := .int) hke.1 (Or.inl ⟨rfl, rfl⟩) q141 (by omega) (by omega) (by omega) dX1_seatAt_1 (fun a_1 h_1 n_1 e_1 => ?_)
  have z_1 : h_1 a_1 = some (pA 0 2 (fun _ => 0)) := by rw [e_1]; exact upH_self _ _ _
  have fo_a_1 : ∀ k i j, live σ k i j → ad k i j ≠ a_1 := fun k i j hl => hR.fresh n_1 hl
  have R_2 : Rel K h_1 o ad σ := hR.other (fun b c hb => by rw [e_1]; exact upH_old hb n_1)
  refine j_dup (pc := 3) dX1_seatAt_3 rfl ?_
  refine j_iconst (pc := 4) dX1_seatAt_4 rfl ?_
  refine j_iload_n (pc := 5) dX1_seatAt_5 rfl ?_
  refine j_if_ge (pc := 6) (tgt := 13) dX1_seatAt_6 (by decide) (by omega) (fun c_6 => ?_) (fun c_6 => ?_)
  · refine j_iconst (pc := 13) dX1_seatAt_13 rfl ?_
    refine j2_iast (i := 0) z_1 (by show 0 ≤ 0 ∧ 0 < ((2 : Nat) : Int); omega) dX1_seatAt_14 (fun h_14 e_14 => ?_)
    have z_3 : h_14 a_1 = some (pA 0 2 (uA (fun _ => 0) 0 0)) := by rw [e_14]; exact upH_self _ _ _
    have R_4 : Rel K h_14 o ad σ := R_2.off e_14 fo_a_1
    refine j_dup (pc := 15) dX1_seatAt_15 rfl ?_
    refine j_iconst (pc := 16) dX1_seatAt_16 rfl ?_
    refine j_iconst (pc := 17) dX1_seatAt_17 rfl ?_
    refine j2_iast (i := 1) z_3 (by show 0 ≤ 1 ∧ 1 < ((2 : Nat) : Int); omega) dX1_seatAt_18 (fun h_18 e_18 => ?_)
    have z_5 : h_18 a_1 = some (pA 0 2 (uA (uA (fun _ => 0) 0 0) 1 1)) := by rw [e_18]; exact upH_self _ _ _
    have R_6 : Rel K h_18 o ad σ := R_4.off e_18 fo_a_1
    refine j_room (cl' := 20 + 1) (sl' := 122 + 6) (by omega) (by omega) ?_
    refine j_callSx (pc := 19) (c_exist h_18 hfl RG.of2 hIOB a_1 1 (uA (uA (fun _ => 0) 0 0) 1 1) (rrA (rrA rr0 (by decide)) (by decide)) (by decide) z_5) (lw_S q370 q371 q44 q372) md_yX1_exist (nT _) (fun E x9 hx9 => by obtain ⟨rfl, hn9, rfl⟩ := hx9; rw [ex1] at hn9; exact hX _ _ ⟨xE_of 0 (by unfold t1; (repeat' split) <;> omega) rfl, ad, R_6⟩) (by decide) (by decide) rfl (Nat.le_of_ble_eq_true rfl) dX1_seatAt_19 (qV.k (fun s_19 q_19 => ?_))
    obtain ⟨q_19a, q_19e⟩ := q_19
    subst s_19
    have q_19b := ex1.mp q_19a
    refine j_aload_n (pc := 22) dX1_seatAt_22 rfl ?_
    refine j_room (cl' := 2 + 18) (sl' := 12 + 110) (by omega) (by omega) ?_
    refine j_callV (pc := 23) (c_house h_18 hke hfe hbe hse hne o ad σ R_6 hB hI) (lw_V q168 q170 qs0 q44 q171) rfl md_yX1_house (RC.of2 (show h_18 (o) = some (pO 0 [.ref (ad 1 0 0), .ref (ad 2 0 0), .ref (ad 3 0 0), .ref (ad 4 0 0), va_rf (if σ.1 14 = 0 then none else some (ad 12 0 0)), IV (σ.1 0), .ref (ad 5 0 0), .ref (ad 6 0 0)]) from R_6.top) rfl) (by decide) (by decide) rfl (Nat.le_of_ble_eq_true rfl) dX1_seatAt_23 (qN.k (fun r_23 s_23 q_23 => ?_))
    obtain ⟨R_z23, q_23c⟩ := q_23
    rcases q_23c with ⟨h14, q_h23, bv_23, bs_23, bg_23, e1q_23, H1_23, H2_23, H3_23, H4_23⟩ | ⟨h14, e1q_23⟩
    · subst r_23
      refine j_astore_n (pc := 26) dX1_seatAt_26 (by decide) (lo' := [some (.ref o), some (IV p), some (.ref q_h23)]) rfl ?_
      refine j_aload_n (pc := 27) dX1_seatAt_27 rfl ?_
      refine j_ifnull (pc := 28) dX1_seatAt_28 ?_
      refine j_iload_n (pc := 31) dX1_seatAt_31 rfl ?_
      refine j_aload_n (pc := 32) dX1_seatAt_32 rfl ?_
      refine j2_getN (T := TX13) (N := 6) (k0 := 3) (ref := "BallotFoundry$House") (by rfl) in_X13 (by decide) hne.2.2.2.2.2.1 (Or.inl rfl) H1_23 rfl dX1_seatAt_33 ?_
      refine j_icmp_lt (pc := 36) (tgt := 43) dX1_seatAt_36 (by decide) (by omega) (by omega) (fun c_36 => ?_) (fun c_36 => ?_)
      · refine j_aload_n (pc := 43) dX1_seatAt_43 rfl ?_
        refine j2_getN (T := TX13) (N := 6) (k0 := 2) (ref := "BallotFoundry$House") (by rfl) in_X13 (by decide) hne.2.2.2.2.1 (Or.inl rfl) H1_23 rfl dX1_seatAt_44 ?_
        refine j_iload_n (pc := 47) dX1_seatAt_47 rfl ?_
        refine j2_iald (i := p) H4_23 (by show 0 ≤ p ∧ p < ((30 : Nat) : Int); omega) dX1_seatAt_48 ?_
        refine j_iret (pc := 49) rfl (hQ _ _ ?_) dX1_seatAt_49
        exact ⟨by unfold t1; (repeat' split) <;> omega, by rw [if_pos ⟨h14, by omega⟩], ad, R_z23⟩
      · refine j_iconst (pc := 39) dX1_seatAt_39 rfl ?_
        refine j_goto (pc := 40) (tgt := 49) dX1_seatAt_40 (by decide) ?_
        refine j_iret (pc := 49) rfl (hQ _ _ ?_) dX1_seatAt_49
        exact ⟨by unfold t1; (repeat' split) <;> omega, by rw [if_neg (fun z => by have z1 := z.1; have z2 := z.2; omega)], ad, R_z23⟩
    · subst r_23
      refine j_astore_nR (pc := 26) (r := none) dX1_seatAt_26 (by decide) (lo' := [some (.ref o), some (IV p), some (.null)]) rfl ?_
      refine j_aload_nR (pc := 27) (r := none) dX1_seatAt_27 rfl ?_
      refine j_ifnullN (pc := 28) (tgt := 39) dX1_seatAt_28 (by decide) ?_
      refine j_iconst (pc := 39) dX1_seatAt_39 rfl ?_
      refine j_goto (pc := 40) (tgt := 49) dX1_seatAt_40 (by decide) ?_
      refine j_iret (pc := 49) rfl (hQ _ _ ?_) dX1_seatAt_49
      exact ⟨by unfold t1; (repeat' split) <;> omega, by rw [if_neg (fun z => by have z1 := z.1; have z2 := z.2; omega)], ad, R_z23⟩
  · refine j_iconst (pc := 9) dX1_seatAt_9 rfl ?_
    refine j_goto (pc := 10) (tgt := 14) dX1_seatAt_10 (by decide) ?_
    refine j2_iast (i := 0) z_1 (by show 0 ≤ 0 ∧ 0 < ((2 : Nat) : Int); omega) dX1_seatAt_14 (fun h_14_1 e_14_1 => ?_)
    have z_7 : h_14_1 a_1 = some (pA 0 2 (uA (fun _ => 0) 0 (-1))) := by rw [e_14_1]; exact upH_self _ _ _
    have R_8 : Rel K h_14_1 o ad σ := R_2.off e_14_1 fo_a_1
    refine j_dup (pc := 15) dX1_seatAt_15 rfl ?_
    refine j_iconst (pc := 16) dX1_seatAt_16 rfl ?_
    refine j_iconst (pc := 17) dX1_seatAt_17 rfl ?_
    refine j2_iast (i := 1) z_7 (by show 0 ≤ 1 ∧ 1 < ((2 : Nat) : Int); omega) dX1_seatAt_18 (fun h_18_1 e_18_1 => ?_)
    have z_9 : h_18_1 a_1 = some (pA 0 2 (uA (uA (fun _ => 0) 0 (-1)) 1 1)) := by rw [e_18_1]; exact upH_self _ _ _
    have R_10 : Rel K h_18_1 o ad σ := R_8.off e_18_1 fo_a_1
    refine j_room (cl' := 20 + 1) (sl' := 122 + 6) (by omega) (by omega) ?_
    refine j_callSx (pc := 19) (c_exist h_18_1 hfl RG.of2 hIOB a_1 1 (uA (uA (fun _ => 0) 0 (-1)) 1 1) (rrA (rrA rr0 (by decide)) (by decide)) (by decide) z_9) (lw_S q370 q371 q44 q372) md_yX1_exist (nT _) (fun E x9 hx9 => by obtain ⟨rfl, hn9, rfl⟩ := hx9; rw [ex1] at hn9; exact hX _ _ ⟨xE_of 0 (by unfold t1; (repeat' split) <;> omega) rfl, ad, R_10⟩) (by decide) (by decide) rfl (Nat.le_of_ble_eq_true rfl) dX1_seatAt_19 (qV.k (fun s_19_1 q_19_1 => ?_))
    obtain ⟨q_19_1a, q_19_1e⟩ := q_19_1
    subst s_19_1
    have q_19_1b := ex1.mp q_19_1a
    refine j_aload_n (pc := 22) dX1_seatAt_22 rfl ?_
    refine j_room (cl' := 2 + 18) (sl' := 12 + 110) (by omega) (by omega) ?_
    refine j_callV (pc := 23) (c_house h_18_1 hke hfe hbe hse hne o ad σ R_10 hB hI) (lw_V q168 q170 qs0 q44 q171) rfl md_yX1_house (RC.of2 (show h_18_1 (o) = some (pO 0 [.ref (ad 1 0 0), .ref (ad 2 0 0), .ref (ad 3 0 0), .ref (ad 4 0 0), va_rf (if σ.1 14 = 0 then none else some (ad 12 0 0)), IV (σ.1 0), .ref (ad 5 0 0), .ref (ad 6 0 0)]) from R_10.top) rfl) (by decide) (by decide) rfl (Nat.le_of_ble_eq_true rfl) dX1_seatAt_23 (qN.k (fun r_23_1 s_23_1 q_23_1 => ?_))
    obtain ⟨R_z23, q_23_1c⟩ := q_23_1
    rcases q_23_1c with ⟨h14, q_h23, bv_23, bs_23, bg_23, e1q_23_1, H1_23, H2_23, H3_23, H4_23⟩ | ⟨h14, e1q_23_1⟩
    · subst r_23_1
      refine j_astore_n (pc := 26) dX1_seatAt_26 (by decide) (lo' := [some (.ref o), some (IV p), some (.ref q_h23)]) rfl ?_
      refine j_aload_n (pc := 27) dX1_seatAt_27 rfl ?_
      refine j_ifnull (pc := 28) dX1_seatAt_28 ?_
      refine j_iload_n (pc := 31) dX1_seatAt_31 rfl ?_
      refine j_aload_n (pc := 32) dX1_seatAt_32 rfl ?_
      refine j2_getN (T := TX13) (N := 6) (k0 := 3) (ref := "BallotFoundry$House") (by rfl) in_X13 (by decide) hne.2.2.2.2.2.1 (Or.inl rfl) H1_23 rfl dX1_seatAt_33 ?_
      refine j_icmp_lt (pc := 36) (tgt := 43) dX1_seatAt_36 (by decide) (by omega) (by omega) (fun c_36_1 => ?_) (fun c_36_1 => ?_)
      · refine j_aload_n (pc := 43) dX1_seatAt_43 rfl ?_
        refine j2_getN (T := TX13) (N := 6) (k0 := 2) (ref := "BallotFoundry$House") (by rfl) in_X13 (by decide) hne.2.2.2.2.1 (Or.inl rfl) H1_23 rfl dX1_seatAt_44 ?_
        refine j_iload_n (pc := 47) dX1_seatAt_47 rfl ?_
        refine j2_iald (i := p) H4_23 (by show 0 ≤ p ∧ p < ((30 : Nat) : Int); omega) dX1_seatAt_48 ?_
        refine j_iret (pc := 49) rfl (hQ _ _ ?_) dX1_seatAt_49
        exact ⟨by unfold t1; (repeat' split) <;> omega, by rw [if_pos ⟨h14, by omega⟩], ad, R_z23⟩
      · refine j_iconst (pc := 39) dX1_seatAt_39 rfl ?_
        refine j_goto (pc := 40) (tgt := 49) dX1_seatAt_40 (by decide) ?_
        refine j_iret (pc := 49) rfl (hQ _ _ ?_) dX1_seatAt_49
        exact ⟨by unfold t1; (repeat' split) <;> omega, by rw [if_neg (fun z => by have z1 := z.1; have z2 := z.2; omega)], ad, R_z23⟩
    · subst r_23_1
      refine j_astore_nR (pc := 26) (r := none) dX1_seatAt_26 (by decide) (lo' := [some (.ref o), some (IV p), some (.null)]) rfl ?_
      refine j_aload_nR (pc := 27) (r := none) dX1_seatAt_27 rfl ?_
      refine j_ifnullN (pc := 28) (tgt := 39) dX1_seatAt_28 (by decide) ?_
      refine j_iconst (pc := 39) dX1_seatAt_39 rfl ?_
      refine j_goto (pc := 40) (tgt := 49) dX1_seatAt_40 (by decide) ?_
      refine j_iret (pc := 49) rfl (hQ _ _ ?_) dX1_seatAt_49
      exact ⟨by unfold t1; (repeat' split) <;> omega, by rw [if_neg (fun z => by have z1 := z.1; have z2 := z.2; omega)], ad, R_z23⟩

set_option maxHeartbeats 4000000 in
theorem c_lots {Γ : GG} {A : Nat → Prop} {K : KK} {l : Launch} (h : AL2) (hke : KE Γ A K) (hfe : FE Γ) (hbe : BE Γ A K) (hse : SE Γ A K) (hne : NE Γ) (o : Nat) (ad : AD) (σ : MM) (hR : Rel K h o ad σ) (hB : Bd σ) (hI : In σ) : Ct Γ A (Rep2 Γ A K) l yX1_lots (ws_ yX1_lots cX1_lots 2 (some .int)) 12 22 130 [.ref o] h (qI (fun (r : Int) (h' : AL2) => r = (if σ.1 14 = 5 then (sHo σ 0).2.2.1 else -1) ∧ Rel K h' o ad σ)) X0 := by
  refine Ct.ofJ (own := RX1) (nm := "lots") (lo := [some (.ref o), none]) pn_X1 rfl rfl (List.forall_mem_cons.mpr ⟨rfl, (fun _ h => nomatch h)⟩) (Nat.le_of_ble_eq_true rfl) rfl ?_
  have hQ : ∀ (r : Int) (h' : AL2), (r = (if σ.1 14 = 5 then (sHo σ 0).2.2.1 else -1) ∧ Rel K h' o ad σ) → (qI (fun (r : Int) (h' : AL2) => r = (if σ.1 14 = 5 then (sHo σ 0).2.2.1 else -1) ∧ Rel K h' o ad σ)) (some (IV r)) h' := fun r h' h => ⟨r, rfl, h⟩
  generalize (qI (fun (r : Int) (h' : AL2) => r = (if σ.1 14 = 5 then (sHo σ 0).2.2.1 else -1) ∧ Rel K h' o ad σ)) = QP at hQ ⊢
  refine j_aload_n (pc := 0) dX1_lots_0 rfl ?_
  refine j_room (cl' := 4 + 18) (sl' := 20 + 110) (by omega) (by omega) ?_
  refine j_callV (pc := 1) (c_house h hke hfe hbe hse hne o ad σ hR hB hI) (lw_V q168 q170 qs0 q44 q171) rfl md_yX1_house (RC.of2 (show h (o) = some (pO 0 [.ref (ad 1 0 0), .ref (ad 2 0 0), .ref (ad 3 0 0), .ref (ad 4 0 0), va_rf (if σ.1 14 = 0 then none else some (ad 12 0 0)), IV (σ.1 0), .ref (ad 5 0 0), .ref (ad 6 0 0)]) from hR.top) rfl) (by decide) (by decide) rfl (Nat.le_of_ble_eq_true rfl) dX1_lots_1 (qN.k (fun r_1 s_1 q_1 => ?_))
  obtain ⟨R_z1, q_1c⟩ := q_1
  rcases q_1c with ⟨h14, q_h1, bv_1, bs_1, bg_1, e1q_1, H1_1, H2_1, H3_1, H4_1⟩ | ⟨h14, e1q_1⟩
  · subst r_1
    refine j_astore_n (pc := 4) dX1_lots_4 (by decide) (lo' := [some (.ref o), some (.ref q_h1)]) rfl ?_
    refine j_aload_n (pc := 5) dX1_lots_5 rfl ?_
    refine j_ifnonnull (pc := 6) (tgt := 13) dX1_lots_6 (by decide) ?_
    refine j_aload_n (pc := 13) dX1_lots_13 rfl ?_
    refine j2_getN (T := TX13) (N := 6) (k0 := 4) (ref := "BallotFoundry$House") (by rfl) in_X13 (by decide) hne.2.2.2.2.2.2 (Or.inl rfl) H1_1 rfl dX1_lots_14 ?_
    refine j_iret (pc := 17) rfl (hQ _ _ ?_) dX1_lots_17
    exact ⟨by rw [if_pos h14], R_z1⟩
  · subst r_1
    refine j_astore_nR (pc := 4) (r := none) dX1_lots_4 (by decide) (lo' := [some (.ref o), some (.null)]) rfl ?_
    refine j_aload_nR (pc := 5) (r := none) dX1_lots_5 rfl ?_
    refine j_ifnonnullN (pc := 6) dX1_lots_6 ?_
    refine j_iconst (pc := 9) dX1_lots_9 rfl ?_
    refine j_goto (pc := 10) (tgt := 17) dX1_lots_10 (by decide) ?_
    refine j_iret (pc := 17) rfl (hQ _ _ ?_) dX1_lots_17
    exact ⟨by rw [if_neg h14], R_z1⟩

set_option maxHeartbeats 4000000 in
theorem c_seatsBy {Γ : GG} {A : Nat → Prop} {K : KK} {l : Launch} (h : AL2) (hfl : l.stackTraces = false) (hke : KE Γ A K) (hfe : FE Γ) (hIOB : TH5 Γ A "java/lang/IndexOutOfBoundsException") (hIAE : TH5 Γ A "java/lang/IllegalArgumentException") (hISE : TH5 Γ A "java/lang/IllegalStateException") (o : Nat) (ad : AD) (σ : MM) (hR : Rel K h o ad σ) (hB : Bd σ) (p : Int) (hp : RR p) (hbe : BE Γ A K) (hse : SE Γ A K) (hne : NE Γ) (hI : In σ) : Ct Γ A (Rep2 Γ A K) l yX1_seatsByBallots (ws_ yX1_seatsByBallots cX1_seatsByBallots 2 (some .int)) 12 22 130 [.ref o, IV p] h (qI (fun (r : Int) (h' : AL2) => t1 (0 ≤ p ∧ p ≤ 4) = 0 ∧ r = (if σ.1 14 < 4 then -1 else (sHo σ 1).1 p.toNat) ∧ ∃ ad', Rel K h' o ad' (σ))) (fun (E : String) (h' : AL2) => xE ["java/lang/IndexOutOfBoundsException"] (t1 (0 ≤ p ∧ p ≤ 4)) E ∧ ∃ ad', Rel K h' o ad' σ) := by
  refine Ct.ofJ (own := RX1) (nm := "seatsByBallots") (lo := [some (.ref o), some (IV p)]) pn_X1 rfl rfl (List.forall_mem_cons.mpr ⟨rfl, (List.forall_mem_cons.mpr ⟨rfl, (fun _ h => nomatch h)⟩)⟩) (Nat.le_of_ble_eq_true rfl) rfl ?_
  have hQ : ∀ (r : Int) (h' : AL2), (t1 (0 ≤ p ∧ p ≤ 4) = 0 ∧ r = (if σ.1 14 < 4 then -1 else (sHo σ 1).1 p.toNat) ∧ ∃ ad', Rel K h' o ad' (σ)) → (qI (fun (r : Int) (h' : AL2) => t1 (0 ≤ p ∧ p ≤ 4) = 0 ∧ r = (if σ.1 14 < 4 then -1 else (sHo σ 1).1 p.toNat) ∧ ∃ ad', Rel K h' o ad' (σ))) (some (IV r)) h' := fun r h' h => ⟨r, rfl, h⟩
  generalize (qI (fun (r : Int) (h' : AL2) => t1 (0 ≤ p ∧ p ≤ 4) = 0 ∧ r = (if σ.1 14 < 4 then -1 else (sHo σ 1).1 p.toNat) ∧ ∃ ad', Rel K h' o ad' (σ))) = QP at hQ ⊢
  have hX : ∀ (E : String) (h' : AL2), (xE ["java/lang/IndexOutOfBoundsException"] (t1 (0 ≤ p ∧ p ≤ 4)) E ∧ ∃ ad', Rel K h' o ad' σ) → (fun (E : String) (h' : AL2) => xE ["java/lang/IndexOutOfBoundsException"] (t1 (0 ≤ p ∧ p ≤ 4)) E ∧ ∃ ad', Rel K h' o ad' σ) E h' := fun E h' h => h
  generalize (fun (E : String) (h' : AL2) => xE ["java/lang/IndexOutOfBoundsException"] (t1 (0 ≤ p ∧ p ≤ 4)) E ∧ ∃ ad', Rel K h' o ad' σ) = XP at hX ⊢
  have n14 : 0 ≤ σ.1 14 ∧ σ.1 14 ≤ 5 := hB.1 14
  refine j_iconst (pc := 0) dX1_seatsByBallots_0 rfl ?_
  refine j_room (cl' := 21 + 1) (sl' := 128 + 2) (by omega) (by omega) ?_
  refine j2_newa (i := 2) (N := 2) (atype := .int) hke.1 (Or.inl ⟨rfl, rfl⟩) q141 (by omega) (by omega) (by omega) dX1_seatsByBallots_1 (fun a_1 h_1 n_1 e_1 => ?_)
  have z_1 : h_1 a_1 = some (pA 0 2 (fun _ => 0)) := by rw [e_1]; exact upH_self _ _ _
  have fo_a_1 : ∀ k i j, live σ k i j → ad k i j ≠ a_1 := fun k i j hl => hR.fresh n_1 hl
  have R_2 : Rel K h_1 o ad σ := hR.other (fun b c hb => by rw [e_1]; exact upH_old hb n_1)
  refine j_dup (pc := 3) dX1_seatsByBallots_3 rfl ?_
  refine j_iconst (pc := 4) dX1_seatsByBallots_4 rfl ?_
  refine j_iload_n (pc := 5) dX1_seatsByBallots_5 rfl ?_
  refine j2_iast (i := 0) z_1 (by show 0 ≤ 0 ∧ 0 < ((2 : Nat) : Int); omega) dX1_seatsByBallots_6 (fun h_6 e_6 => ?_)
  have z_3 : h_6 a_1 = some (pA 0 2 (uA (fun _ => 0) 0 p)) := by rw [e_6]; exact upH_self _ _ _
  have R_4 : Rel K h_6 o ad σ := R_2.off e_6 fo_a_1
  refine j_dup (pc := 7) dX1_seatsByBallots_7 rfl ?_
  refine j_iconst (pc := 8) dX1_seatsByBallots_8 rfl ?_
  refine j_iconst (pc := 9) dX1_seatsByBallots_9 rfl ?_
  refine j2_iast (i := 1) z_3 (by show 0 ≤ 1 ∧ 1 < ((2 : Nat) : Int); omega) dX1_seatsByBallots_10 (fun h_10 e_10 => ?_)
  have z_5 : h_10 a_1 = some (pA 0 2 (uA (uA (fun _ => 0) 0 p) 1 5)) := by rw [e_10]; exact upH_self _ _ _
  have R_6 : Rel K h_10 o ad σ := R_4.off e_10 fo_a_1
  refine j_room (cl' := 20 + 1) (sl' := 122 + 6) (by omega) (by omega) ?_
  refine j_callSx (pc := 11) (c_exist h_10 hfl RG.of2 hIOB a_1 1 (uA (uA (fun _ => 0) 0 p) 1 5) (rrA (rrA rr0 (by omega)) (by decide)) (by decide) z_5) (lw_S q370 q371 q44 q372) md_yX1_exist (nT _) (fun E x9 hx9 => by obtain ⟨rfl, hn9, rfl⟩ := hx9; rw [ex1] at hn9; exact hX _ _ ⟨xE_of 0 (by unfold t1; (repeat' split) <;> omega) rfl, ad, R_6⟩) (by decide) (by decide) rfl (Nat.le_of_ble_eq_true rfl) dX1_seatsByBallots_11 (qV.k (fun s_11 q_11 => ?_))
  obtain ⟨q_11a, q_11e⟩ := q_11
  subst s_11
  have q_11b := ex1.mp q_11a
  refine j_aload_n (pc := 14) dX1_seatsByBallots_14 rfl ?_
  refine j_callV (pc := 15) (c_stage h_10 o ad σ R_6 hB) (lw_V q172 q147 q148 q44 q149) rfl md_yX1_stage (RC.of2 (show h_10 (o) = some (pO 0 [.ref (ad 1 0 0), .ref (ad 2 0 0), .ref (ad 3 0 0), .ref (ad 4 0 0), va_rf (if σ.1 14 = 0 then none else some (ad 12 0 0)), IV (σ.1 0), .ref (ad 5 0 0), .ref (ad 6 0 0)]) from R_6.top) rfl) (by decide) (by decide) rfl (Nat.le_of_ble_eq_true rfl) dX1_seatsByBallots_15 (qI.k (fun r_15 s_15 q_15 => ?_))
  obtain ⟨e1q_15, e2q_15⟩ := q_15
  subst r_15
  subst s_15
  have n14_15 : 0 ≤ σ.1 14 ∧ σ.1 14 ≤ 5 := hB.1 14
  refine j_iconst (pc := 18) dX1_seatsByBallots_18 rfl ?_
  refine j_icmp_ge (pc := 19) (tgt := 26) dX1_seatsByBallots_19 (by decide) (by omega) (by decide) (fun c_19 => ?_) (fun c_19 => ?_)
  · have hz : σ.1 14 ≠ 0 := by omega
    refine j_room (cl' := 19 + 1) (sl' := 116 + 6) (by omega) (by omega) ?_
    refine j2_new hke.1 (Or.inl (by decide)) fn_X1_272_X13 dX1_seatsByBallots_26 (fun a_26 h_26 n_26 e_26 => ?_)
    have z_7 : h_26 a_1 = some (pA 0 2 (uA (uA (fun _ => 0) 0 p) 1 5)) := by rw [e_26]; exact upH_old z_5 n_26
    have z_8 : h_26 a_26 = some (pO 11 [.null, .null, .null, IV 0, IV 0, IV 0]) := by rw [e_26]; exact upH_self _ _ _
    have fo_a_26 : ∀ k i j, live σ k i j → ad k i j ≠ a_26 := fun k i j hl => R_6.fresh n_26 hl
    have R_9 : Rel K h_26 o ad σ := R_6.other (fun b c hb => by rw [e_26]; exact upH_old hb n_26)
    refine j_dup (pc := 29) dX1_seatsByBallots_29 rfl ?_
    refine j_aload_n (pc := 30) dX1_seatsByBallots_30 rfl ?_
    refine j2_get fa_X1_58_X1 (show h_26 (o) = some (pO 0 [.ref (ad 1 0 0), .ref (ad 2 0 0), .ref (ad 3 0 0), .ref (ad 4 0 0), .ref (ad 12 0 0), IV (σ.1 0), .ref (ad 5 0 0), .ref (ad 6 0 0)]) from R_9.top1 hz) rfl dX1_seatsByBallots_31 ?_
    refine j_iconst (pc := 34) dX1_seatsByBallots_34 rfl ?_
    refine j_room (cl' := 3 + 16) (sl' := 16 + 100) (by omega) (by omega) ?_
    refine j_callI (pc := 35) (c_house1 h_26 hke hfe hbe hse hne o ad σ R_9 hB hz a_26 fo_a_26 z_8) (lw_meth q177) q77 q175 q176 rfl md_yX13_init (by decide) (by decide) rfl (Nat.le_of_ble_eq_true rfl) dX1_seatsByBallots_35 (qV.k (fun s_35 q_35 => ?_))
    obtain ⟨R_h35, bv_35, bs_35, bg_35, H1_35, H2_35, H3_35, H4_35⟩ := q_35
    refine j2_getN (T := TX13) (N := 6) (k0 := 1) (ref := "BallotFoundry$House") (by rfl) in_X13 (by decide) hne.2.2.2.1 (Or.inl rfl) H1_35 rfl dX1_seatsByBallots_38 ?_
    refine j_iload_n (pc := 41) dX1_seatsByBallots_41 rfl ?_
    refine j2_iald (i := p) H3_35 (by show 0 ≤ p ∧ p < ((5 : Nat) : Int); omega) dX1_seatsByBallots_42 ?_
    refine j_iret (pc := 43) rfl (hQ _ _ ?_) dX1_seatsByBallots_43
    exact ⟨by unfold t1; (repeat' split) <;> omega, by rw [if_neg (by omega)], ad, R_h35⟩
  · refine j_iconst (pc := 22) dX1_seatsByBallots_22 rfl ?_
    refine j_goto (pc := 23) (tgt := 43) dX1_seatsByBallots_23 (by decide) ?_
    refine j_iret (pc := 43) rfl (hQ _ _ ?_) dX1_seatsByBallots_43
    exact ⟨by unfold t1; (repeat' split) <;> omega, by rw [if_pos (by omega)], ad, R_6⟩

