set_option maxRecDepth 100000
set_option maxHeartbeats 4000000 in
theorem c_openAll {Γ : GG} {A : Nat → Prop} {K : KK} {l : Launch} (h : AL2) (hke : KE Γ A K) (hfe : FE Γ) (hbe : BE Γ A K) (hko8 : KO Γ RX8) (o : Nat) (ad : AD) (σ : MM) (hR : Rel K h o ad σ) (hB : Bd σ) (hz : σ.1 14 ≠ 0) (h14 : σ.1 14 = 3) (hI4 : In (setI σ 14 4)) (hn : σ.1 42 ≤ 130) : Ct Γ A (Rep2 Γ A K) l yX9_openAll (ws_ yX9_openAll cX9_openAll 2 none) 12 240 36000 [.ref (ad 12 0 0)] h (qV (fun (h' : AL2) => ∃ ad', Rel K h' o ad' (setI (sCloses σ) 14 3))) X0 := by
  refine Ct.ofJ (own := RX9) (nm := "openAll") (lo := [some (.ref (ad 12 0 0)), none]) pn_X9 rfl rfl (List.forall_mem_cons.mpr ⟨rfl, (fun _ h => nomatch h)⟩) (Nat.le_of_ble_eq_true rfl) rfl ?_
  have hQ : ∀ (h' : AL2), (∃ ad', Rel K h' o ad' (setI (sCloses σ) 14 3)) → (qV (fun (h' : AL2) => ∃ ad', Rel K h' o ad' (setI (sCloses σ) 14 3))) none h' := fun h' h => ⟨rfl, h⟩
  generalize (qV (fun (h' : AL2) => ∃ ad', Rel K h' o ad' (setI (sCloses σ) 14 3))) = QP at hQ ⊢
  have n26 : 0 ≤ σ.1 26 ∧ σ.1 26 ≤ 60 := hB.1 26
  refine j_iconst (pc := 0) dX9_openAll_0 rfl ?_
  refine j_istore_n (pc := 1) dX9_openAll_1 (by decide) (lo' := [some (.ref (ad 12 0 0)), some (IV 0)]) rfl ?_
  have hl_2 : ∀ (fu : Nat) (k : Nat) (g : AL2) (ad9 : AD) (u : MM) (b9 : Nat) (c9 : Nat), (σ.1 26).toNat - k < fu → (k : Int) ≤ σ.1 26 → (60 - k) * 4 ≤ b9 ∧ (60 - k) * 600 ≤ c9 → u = setI (sClN σ k) 14 3 → Rel K g o ad9 u → (∀ k i j, k ≠ 26 → ad9 k i j = ad k i j) → J Γ A (Rep2 Γ A K) l RX9 "openAll" cX9_openAll 2 none [] 12 240 36000 QP X0 b9 c9 g 2 [some (.ref (ad9 12 0 0)), some (IV (k : Int))] [] := by
    intro fu
    induction fu with
    | zero => intro k g ad9 u b9 c9 hm; exact absurd hm (Nat.not_lt_zero _)
    | succ fu ih_2 =>
      intro k g ad9 u b9 c9 hm hk hb9 hu hg hae
      have hi := sClN_In hI4 (by omega) k (by omega)
      have hu2 : u.2 = (sClN σ k).2 := by rw [hu]; rfl
      have f1 : ∀ j, j ≠ 14 → u.1 j = (sClN σ k).1 j := fun j hj => by rw [hu, setI_1, if_neg hj]
      have hBu : Bd u := by rw [hu]; exact hi.1.1.i (by show (0 : Int) ≤ 3 ∧ (3 : Int) ≤ 5; decide)
      have hzu : u.1 14 ≠ 0 := by rw [hu]; show (3 : Int) ≠ 0; decide
      have c26 : (sClN σ k).1 26 = σ.1 26 := hi.2.1 26 (by decide)
      have f26 := f1 26 (by decide)
      have f9 := f1 9 (by decide)
      have f19 := f1 19 (by decide)
      have f42 := f1 42 (by decide)
      have g42 := hi.2.2
      have e23 : 0 ≤ u.2 23 k ∧ u.2 23 k ≤ 19 := hBu.2 23 k
      refine j_iload_n (pc := 2) dX9_openAll_2 rfl ?_
      refine j_aload_n (pc := 3) dX9_openAll_3 rfl ?_
      refine j2_get fa_X9_29_X9 (show g (ad9 12 0 0) = some (pO 7 [IV (u.1 15), IV (u.1 16), IV (u.1 17), .ref (ad9 13 0 0), .ref (ad9 14 0 0), .ref (ad9 15 0 0), .ref (ad9 16 0 0), .ref (ad9 17 0 0), .ref (ad9 18 0 0), IV (u.1 14)]) from hg.at 12 0 0 ⟨hzu, rfl, rfl⟩) rfl dX9_openAll_4 ?_
      refine j_callF (pc := 7) (xm := ⟨"java/util/List", "size", "()I"⟩) (l2_size (show g (ad9 17 0 0) = some (pL (rg (u.1 26) (fun q => ad9 25 q 0))) from hg.at 17 0 0 ⟨hzu, rfl, rfl⟩)) (lw_F q643 q159 q161 q47 q163) hfe.1 (ci := 2) rfl rfl mdx_yJ2_size (RC.ofL (show g (ad9 17 0 0) = some (pL (rg (u.1 26) (fun q => ad9 25 q 0))) from hg.at 17 0 0 ⟨hzu, rfl, rfl⟩)) (by decide) (by decide) rfl (Nat.le_of_ble_eq_true rfl) dX9_openAll_7 (qI.k (fun r_7 s_7 q_7 => ?_))
      obtain ⟨e1q_7, e2q_7⟩ := q_7
      subst s_7
      rw [rg_len (by omega)] at e1q_7
      subst r_7
      refine j_icmp_ge (pc := 12) (tgt := 59) dX9_openAll_12 (by decide) (by omega) (by omega) (fun c_12 => ?_) (fun c_12 => ?_)
      · refine j_vret (pc := 59) rfl (hQ _ ?_) dX9_openAll_59
        have e9 : k = (σ.1 26).toNat := by omega
        exact ⟨ad9, by have h9 := hg; rw [hu, e9] at h9; exact h9⟩
      · refine j_aload_n (pc := 15) dX9_openAll_15 rfl ?_
        refine j2_get fa_X9_29_X9 (show g (ad9 12 0 0) = some (pO 7 [IV (u.1 15), IV (u.1 16), IV (u.1 17), .ref (ad9 13 0 0), .ref (ad9 14 0 0), .ref (ad9 15 0 0), .ref (ad9 16 0 0), .ref (ad9 17 0 0), .ref (ad9 18 0 0), IV (u.1 14)]) from hg.at 12 0 0 ⟨hzu, rfl, rfl⟩) rfl dX9_openAll_16 ?_
        refine j_iload_n (pc := 19) dX9_openAll_19 rfl ?_
        refine j_callF (pc := 20) (xm := ⟨"java/util/List", "get", "(I)Ljava/lang/Object;"⟩) (l2_get (show g (ad9 17 0 0) = some (pL (rg (u.1 26) (fun q => ad9 25 q 0))) from hg.at 17 0 0 ⟨hzu, rfl, rfl⟩) (i := (k : Int)) (v := ad9 25 k 0) (by omega) (rg_at (by omega) (by omega))) (lw_F q645 q185 q187 q47 q189) hfe.2.2.1 (ci := 2) rfl rfl mdx_yJ2_get (RC.ofL (show g (ad9 17 0 0) = some (pL (rg (u.1 26) (fun q => ad9 25 q 0))) from hg.at 17 0 0 ⟨hzu, rfl, rfl⟩)) (by decide) (by decide) rfl (Nat.le_of_ble_eq_true rfl) dX9_openAll_20 (qR.k (fun r_20 s_20 q_20 => ?_))
        obtain ⟨e1q_20, e2q_20⟩ := q_20
        subst r_20
        subst s_20
        obtain ⟨x9, hx9⟩ : ∃ x9 : Nat, x9 = (u.2 23 k).toNat := ⟨_, rfl⟩
        have q4 := hi.1.2.2.2.2.2.1 k (by omega)
        rw [← hu2] at q4
        refine j2_castS (C := RX11) rfl q646 (show g (ad9 25 k 0) = some (pO 9 [.ref (ad9 7 x9 0), IV (u.2 24 k), IV (u.2 25 k)]) from by rw [hx9]; exact hg.at 25 k 0 ⟨hzu, (by omega), rfl⟩) dX9_openAll_25 ?_
        refine j2_get fa_X9_74_X11 (show g (ad9 25 k 0) = some (pO 9 [.ref (ad9 7 x9 0), IV (u.2 24 k), IV (u.2 25 k)]) from by rw [hx9]; exact hg.at 25 k 0 ⟨hzu, (by omega), rfl⟩) rfl dX9_openAll_28 ?_
        have n_1 : 0 ≤ u.2 25 k ∧ u.2 25 k ≤ 2 := hBu.2 25 k
        refine j_if_ne (pc := 31) (tgt := 53) dX9_openAll_31 (by decide) (by omega) (fun c_31 => ?_) (fun c_31 => ?_)
        · refine j_iinc (pc := 53) dX9_openAll_53 rfl (by decide) (lo' := [some (.ref (ad9 12 0 0)), some (IV ((k : Int) + 1))]) rfl ?_
          refine j_goto (pc := 56) (tgt := 2) dX9_openAll_56 (by decide) ?_
          exact j_room (by omega) (by omega) (ih_2 (k + 1) g ad9 u b9 c9 (by omega) (by omega) (by omega) (by show u = setI (sClStep (sClN σ k) k) 14 3; rw [← sClStep_setI, ← hu]; unfold sClStep; rw [if_neg (by omega)]) hg hae)
        · have q5 := hi.1.2.2.2.2.2.2.1 k (by omega) (by rw [← hu2]; exact c_31)
          rw [← hu2] at q5
          have rc := hi.1.casts_le (p := u.2 23 k) e23 (by rw [← hu2]; exact q4.2) (by rw [← hu2]; exact q5)
          rw [← hu2, ← hx9] at rc
          have q6 := q4.2
          rw [← hx9] at q6
          have q2 := hi.1.2.2.2.1 x9 (by omega) (by rw [← hu2]; exact q6)
          rw [← hu2] at q2
          obtain ⟨y9, hy9⟩ : ∃ y9 : Nat, u.2 20 x9 = (y9 : Int) := ⟨(u.2 20 x9).toNat, by omega⟩
          rw [hy9, Int.toNat_natCast] at rc
          refine j_aload_n (pc := 34) dX9_openAll_34 rfl ?_
          refine j_aload_n (pc := 35) dX9_openAll_35 rfl ?_
          refine j2_get fa_X9_29_X9 (show g (ad9 12 0 0) = some (pO 7 [IV (u.1 15), IV (u.1 16), IV (u.1 17), .ref (ad9 13 0 0), .ref (ad9 14 0 0), .ref (ad9 15 0 0), .ref (ad9 16 0 0), .ref (ad9 17 0 0), .ref (ad9 18 0 0), IV (u.1 14)]) from hg.at 12 0 0 ⟨hzu, rfl, rfl⟩) rfl dX9_openAll_36 ?_
          refine j_iload_n (pc := 39) dX9_openAll_39 rfl ?_
          refine j_callF (pc := 40) (xm := ⟨"java/util/List", "get", "(I)Ljava/lang/Object;"⟩) (l2_get (show g (ad9 17 0 0) = some (pL (rg (u.1 26) (fun q => ad9 25 q 0))) from hg.at 17 0 0 ⟨hzu, rfl, rfl⟩) (i := (k : Int)) (v := ad9 25 k 0) (by omega) (rg_at (by omega) (by omega))) (lw_F q645 q185 q187 q47 q189) hfe.2.2.1 (ci := 2) rfl rfl mdx_yJ2_get (RC.ofL (show g (ad9 17 0 0) = some (pL (rg (u.1 26) (fun q => ad9 25 q 0))) from hg.at 17 0 0 ⟨hzu, rfl, rfl⟩)) (by decide) (by decide) rfl (Nat.le_of_ble_eq_true rfl) dX9_openAll_40 (qR.k (fun r_40 s_40 q_40 => ?_))
          obtain ⟨e1q_40, e2q_40⟩ := q_40
          subst r_40
          subst s_40
          refine j2_castS (C := RX11) rfl q646 (show g (ad9 25 k 0) = some (pO 9 [.ref (ad9 7 x9 0), IV (u.2 24 k), IV (u.2 25 k)]) from by rw [hx9]; exact hg.at 25 k 0 ⟨hzu, (by omega), rfl⟩) dX9_openAll_45 ?_
          refine j_bipush (pc := 48) (a := 115) dX9_openAll_48 (by decide) ?_
          refine j_room (cl' := (b9 - 4) + 4) (sl' := (c9 - 600) + 600) (by omega) (by omega) ?_
          refine j_callV (pc := 50) (c_xopen g hke hfe hbe hko8 o ad9 u hg hBu hzu k (by omega) x9 hx9 (by omega) y9 hy9 (by omega) rc.2 (by omega) 115 ⟨rfl, rfl⟩) (lw_V q812 q813 q814 q69 q815) rfl md_yX9_open (RC.of2 (show g (ad9 12 0 0) = some (pO 7 [IV (u.1 15), IV (u.1 16), IV (u.1 17), .ref (ad9 13 0 0), .ref (ad9 14 0 0), .ref (ad9 15 0 0), .ref (ad9 16 0 0), .ref (ad9 17 0 0), .ref (ad9 18 0 0), IV (u.1 14)]) from hg.at 12 0 0 ⟨hzu, rfl, rfl⟩) rfl) (by decide) (by decide) rfl (Nat.le_of_ble_eq_true rfl) dX9_openAll_50 (qV.k (fun s_50 q_50 => ?_))
          obtain ⟨ad_50, hk_50, R_o50⟩ := q_50
          refine j_iinc (pc := 53) dX9_openAll_53 rfl (by decide) (lo' := [some (.ref (ad9 12 0 0)), some (IV ((k : Int) + 1))]) rfl ?_
          refine j_goto (pc := 56) (tgt := 2) dX9_openAll_56 (by decide) ?_
          rw [← hk_50 12 0 0 (by decide)]
          exact j_room (by omega) (by omega) (ih_2 (k + 1) s_50 ad_50 (sNote (sCasts (setA u 25 k 2) (u.2 23 k) (u.2 24 k)) (u.1 15) 115 (u.2 23 k)) (b9 - 4) (c9 - 600) (by omega) (by omega) (by omega) (by show _ = setI (sClStep (sClN σ k) k) 14 3; rw [← sClStep_setI, ← hu]; unfold sClStep; rw [if_pos (by omega)]) R_o50 (fun k9 i j h9 => (hk_50 k9 i j h9).trans (hae k9 i j h9)))
  exact j_room (by omega) (by omega) (hl_2 _ 0 h ad σ 240 36000 (Nat.lt_succ_self _) (by omega) (by decide) (by show σ = setI (setI σ 14 4) 14 3; rw [setI_setI, ← h14, setI_self]) hR (fun _ _ _ _ => rfl))

/-- what a day's begin costs -/
def bgC (σ : MM) : Nat := if σ.1 14 = 1 ∧ σ.1 0 = σ.1 15 - 6 then 20 else if σ.1 14 = 3 then 240 else 0
def bgS (σ : MM) : Nat := if σ.1 14 = 1 ∧ σ.1 0 = σ.1 15 - 6 then 200 else if σ.1 14 = 3 then 36000 else 0
def cC (σ : MM) : Nat := if σ.1 14 = 1 then 260 else if σ.1 14 = 2 ∨ σ.1 14 = 3 then 240 else 0
def cS (σ : MM) : Nat := if σ.1 14 = 1 then 36200 else if σ.1 14 = 2 ∨ σ.1 14 = 3 then 36000 else 0
theorem sRoll_14 (σ : MM) : (sRoll σ).1 14 = 2 := by unfold sRoll; rw [(sRollN_fr σ 10 (by decide) _).1]; rfl
theorem sClN_14 (σ : MM) : ∀ n : Nat, (sClN σ n).1 14 = 4
  | 0 => rfl
  | n + 1 => by unfold sClN; rw [clStep_1 _ _ _ (by decide)]; exact sClN_14 σ n
theorem cost_day (u : MM) : bgC (setI u 0 (u.1 0 + 1)) + cC (sBegin (setI u 0 (u.1 0 + 1))) ≤ cC u ∧ bgS (setI u 0 (u.1 0 + 1)) + cS (sBegin (setI u 0 (u.1 0 + 1))) ≤ cS u := by
  obtain ⟨w, hw⟩ : ∃ w, w = setI u 0 (u.1 0 + 1) := ⟨_, rfl⟩
  have e : u.1 14 = w.1 14 := by rw [hw]; rfl
  rw [← hw]
  have h1 := sRoll_14 w
  have h2 : (sCloses w).1 14 = 4 := sClN_14 w _
  by_cases c1 : w.1 14 = 1 ∧ w.1 0 = w.1 15 - 6
  · have hb : sBegin w = sRoll w := if_pos c1
    rw [hb]
    unfold cC cS bgC bgS
    rw [if_pos c1, if_pos c1, h1, e, c1.1]
    decide
  · by_cases c2 : w.1 14 = 2 ∧ w.1 0 = w.1 15
    · have hb : sBegin w = setI w 14 3 := by unfold sBegin; rw [if_neg c1, if_pos c2]
      rw [hb]
      unfold cC cS bgC bgS
      rw [if_neg c1, if_neg c1, show (setI w 14 3).1 14 = 3 from rfl, e, c2.1]
      decide
    · by_cases c3 : w.1 14 = 3
      · have hb : sBegin w = sCloses w := by unfold sBegin; rw [if_neg c1, if_neg c2, if_pos c3]
        rw [hb]
        unfold cC cS bgC bgS
        rw [if_neg c1, if_neg c1, h2, e, c3]
        decide
      · have hb : sBegin w = w := by unfold sBegin; rw [if_neg c1, if_neg c2, if_neg c3]
        rw [hb]
        unfold cC cS bgC bgS
        rw [if_neg c1, if_neg c1, if_neg c3, if_neg c3, e]
        exact ⟨Nat.le_of_eq (Nat.zero_add _), Nat.le_of_eq (Nat.zero_add _)⟩

theorem md_yX9_openAll : MD yX9_openAll 0 := by decide +kernel
theorem fp_X1_170_X9 : FP RX1 170 7 9 (.int) false := ⟨RX9, TX9, 10, "BallotFoundry$Election", tyX9, rfl, in_X9, by decide, q733, Or.inl rfl, tyX9_ok, nmX9, rfl, rfl, fun h => nomatch h⟩
theorem md_yX1_makeRoll : MD yX1_makeRoll 0 := by decide +kernel
set_option maxHeartbeats 4000000 in
theorem c_begin {Γ : GG} {A : Nat → Prop} {K : KK} {l : Launch} (h : AL2) (MC MS : Nat) (hke : KE Γ A K) (hfe : FE Γ) (hbe : BE Γ A K) (hko8 : KO Γ RX8) (hne : NE Γ) (hko10 : KO Γ RX10) (o : Nat) (ad : AD) (σ : MM) (hR : Rel K h o ad σ) (hB : Bd σ) (hroll : σ.1 14 = 1 → σ.1 0 = σ.1 15 - 6 → RollPre σ ∧ σ.1 19 = 0 ∧ (∀ s : Nat, s < 5 → (0 : Int) ≤ s → σ.2 21 s = 0 ∧ σ.2 28 s = 0 ∧ σ.2 31 s = 0 ∧ σ.2 32 s = -1) ∧ 1 ≤ σ.1 6) (hcl : σ.1 14 = 3 → In (setI σ 14 4) ∧ σ.1 42 ≤ 130) (hMC : bgC σ ≤ MC) (hMS : bgS σ ≤ MS) : Ct Γ A (Rep2 Γ A K) l yX1_begin (ws_ yX1_begin cX1_begin 1 none) 13 MC MS [.ref o] h (qV (fun (h' : AL2) => ∃ ad', Rel K h' o ad' (sBegin σ))) X0 := by
  refine Ct.ofJ (own := RX1) (nm := "begin") (lo := [some (.ref o)]) pn_X1 rfl rfl (List.forall_mem_cons.mpr ⟨rfl, (fun _ h => nomatch h)⟩) (Nat.le_of_ble_eq_true rfl) rfl ?_
  have hQ : ∀ (h' : AL2), (∃ ad', Rel K h' o ad' (sBegin σ)) → (qV (fun (h' : AL2) => ∃ ad', Rel K h' o ad' (sBegin σ))) none h' := fun h' h => ⟨rfl, h⟩
  generalize (qV (fun (h' : AL2) => ∃ ad', Rel K h' o ad' (sBegin σ))) = QP at hQ ⊢
  refine j_aload_n (pc := 0) dX1_begin_0 rfl ?_
  refine j_callV (pc := 1) (c_stage h o ad σ hR hB) (lw_V q172 q147 q148 q44 q149) rfl md_yX1_stage (RC.of2 (show h (o) = some (pO 0 [.ref (ad 1 0 0), .ref (ad 2 0 0), .ref (ad 3 0 0), .ref (ad 4 0 0), va_rf (if σ.1 14 = 0 then none else some (ad 12 0 0)), IV (σ.1 0), .ref (ad 5 0 0), .ref (ad 6 0 0)]) from hR.top) rfl) (by decide) (by decide) rfl (Nat.le_of_ble_eq_true rfl) dX1_begin_1 (qI.k (fun r_1 s_1 q_1 => ?_))
  obtain ⟨e1q_1, e2q_1⟩ := q_1
  subst r_1
  subst s_1
  have n14_1 : 0 ≤ σ.1 14 ∧ σ.1 14 ≤ 5 := hB.1 14
  refine j_iconst (pc := 4) dX1_begin_4 rfl ?_
  refine j_icmp_ne (pc := 5) (tgt := 42) dX1_begin_5 (by decide) (by omega) (by decide) (fun c_5 => ?_) (fun c_5 => ?_)
  · refine j_aload_n (pc := 42) dX1_begin_42 rfl ?_
    refine j_callV (pc := 43) (c_stage h o ad σ hR hB) (lw_V q172 q147 q148 q44 q149) rfl md_yX1_stage (RC.of2 (show h (o) = some (pO 0 [.ref (ad 1 0 0), .ref (ad 2 0 0), .ref (ad 3 0 0), .ref (ad 4 0 0), va_rf (if σ.1 14 = 0 then none else some (ad 12 0 0)), IV (σ.1 0), .ref (ad 5 0 0), .ref (ad 6 0 0)]) from hR.top) rfl) (by decide) (by decide) rfl (Nat.le_of_ble_eq_true rfl) dX1_begin_43 (qI.k (fun r_43 s_43 q_43 => ?_))
    obtain ⟨e1q_43, e2q_43⟩ := q_43
    subst r_43
    subst s_43
    have n14_43 : 0 ≤ σ.1 14 ∧ σ.1 14 ≤ 5 := hB.1 14
    refine j_iconst (pc := 46) dX1_begin_46 rfl ?_
    refine j_icmp_ne (pc := 47) (tgt := 75) dX1_begin_47 (by decide) (by omega) (by decide) (fun c_47 => ?_) (fun c_47 => ?_)
    · refine j_aload_n (pc := 75) dX1_begin_75 rfl ?_
      refine j_callV (pc := 76) (c_stage h o ad σ hR hB) (lw_V q172 q147 q148 q44 q149) rfl md_yX1_stage (RC.of2 (show h (o) = some (pO 0 [.ref (ad 1 0 0), .ref (ad 2 0 0), .ref (ad 3 0 0), .ref (ad 4 0 0), va_rf (if σ.1 14 = 0 then none else some (ad 12 0 0)), IV (σ.1 0), .ref (ad 5 0 0), .ref (ad 6 0 0)]) from hR.top) rfl) (by decide) (by decide) rfl (Nat.le_of_ble_eq_true rfl) dX1_begin_76 (qI.k (fun r_76 s_76 q_76 => ?_))
      obtain ⟨e1q_76, e2q_76⟩ := q_76
      subst r_76
      subst s_76
      have n14_76 : 0 ≤ σ.1 14 ∧ σ.1 14 ≤ 5 := hB.1 14
      refine j_iconst (pc := 79) dX1_begin_79 rfl ?_
      refine j_icmp_ne (pc := 80) (tgt := 98) dX1_begin_80 (by decide) (by omega) (by decide) (fun c_80 => ?_) (fun c_80 => ?_)
      · refine j_vret (pc := 98) rfl (hQ _ ?_) dX1_begin_98
        have hb : sBegin σ = σ := by unfold sBegin; rw [if_neg (by omega), if_neg (by omega), if_neg (by omega)]
        exact ⟨ad, by rw [hb]; exact hR⟩
      · have hz : σ.1 14 ≠ 0 := by omega
        refine j_aload_n (pc := 83) dX1_begin_83 rfl ?_
        refine j2_get fa_X1_58_X1 (show h (o) = some (pO 0 [.ref (ad 1 0 0), .ref (ad 2 0 0), .ref (ad 3 0 0), .ref (ad 4 0 0), .ref (ad 12 0 0), IV (σ.1 0), .ref (ad 5 0 0), .ref (ad 6 0 0)]) from hR.top1 hz) rfl dX1_begin_84 ?_
        have hc1 : bgC σ = 240 := by unfold bgC; rw [if_neg (by omega), if_pos (by omega)]
        have hc2 : bgS σ = 36000 := by unfold bgS; rw [if_neg (by omega), if_pos (by omega)]
        refine j_room (cl' := (MC - 240) + 240) (sl' := (MS - 36000) + 36000) (by omega) (by omega) ?_
        refine j_callV (pc := 87) (c_openAll h hke hfe hbe hko8 o ad σ hR hB hz (by omega) (hcl (by omega)).1 (hcl (by omega)).2) (lw_V q808 q809 q810 q69 q811) rfl md_yX9_openAll (RC.of2 (show h (ad 12 0 0) = some (pO 7 [IV (σ.1 15), IV (σ.1 16), IV (σ.1 17), .ref (ad 13 0 0), .ref (ad 14 0 0), .ref (ad 15 0 0), .ref (ad 16 0 0), .ref (ad 17 0 0), .ref (ad 18 0 0), IV (σ.1 14)]) from hR.at 12 0 0 ⟨hz, rfl, rfl⟩) rfl) (by decide) (by decide) rfl (Nat.le_of_ble_eq_true rfl) dX1_begin_87 (qV.k (fun s_87 q_87 => ?_))
        obtain ⟨ad_87, R_m87⟩ := q_87
        have hz2 : (setI (sCloses σ) 14 3).1 14 ≠ 0 := by show (3 : Int) ≠ 0; decide
        refine j_aload_n (pc := 90) dX1_begin_90 rfl ?_
        refine j2_get fa_X1_58_X1 (show s_87 (o) = some (pO 0 [.ref (ad_87 1 0 0), .ref (ad_87 2 0 0), .ref (ad_87 3 0 0), .ref (ad_87 4 0 0), .ref (ad_87 12 0 0), IV ((sCloses σ).1 0), .ref (ad_87 5 0 0), .ref (ad_87 6 0 0)]) from R_m87.top1 (show (3 : Int) ≠ 0 by decide)) rfl dX1_begin_91 ?_
        refine j_iconst (pc := 94) dX1_begin_94 rfl ?_
        refine j2_put fp_X1_170_X9 (show s_87 (ad_87 12 0 0) = some (pO 7 [IV ((sCloses σ).1 15), IV ((sCloses σ).1 16), IV ((sCloses σ).1 17), .ref (ad_87 13 0 0), .ref (ad_87 14 0 0), .ref (ad_87 15 0 0), .ref (ad_87 16 0 0), .ref (ad_87 17 0 0), .ref (ad_87 18 0 0), IV 3]) from R_m87.at 12 0 0 ⟨(show (3 : Int) ≠ 0 by decide), rfl, rfl⟩) (by decide) (Nat.le_of_ble_eq_true rfl) rfl rfl dX1_begin_95 (fun h_95 e_95 => ?_)
        have z_1 : h_95 (ad_87 12 0 0) = some (pO 7 [IV ((sCloses σ).1 15), IV ((sCloses σ).1 16), IV ((sCloses σ).1 17), .ref (ad_87 13 0 0), .ref (ad_87 14 0 0), .ref (ad_87 15 0 0), .ref (ad_87 16 0 0), .ref (ad_87 17 0 0), .ref (ad_87 18 0 0), IV 4]) := by rw [e_95]; exact upH_self _ _ _
        have R_2 : Rel K h_95 o ad_87 (setI (setI (sCloses σ) 14 3) 14 4) := R_m87.stage (show (3 : Int) ≠ 0 by decide) (by decide) e_95
        refine j_vret (pc := 98) rfl (hQ _ ?_) dX1_begin_98
        have hb : sBegin σ = sCloses σ := by unfold sBegin; rw [if_neg (by omega), if_neg (by omega), if_pos (by omega)]
        exact ⟨ad_87, by have h9 := R_2; rw [setI_setI, ← sClN_14 σ (σ.1 26).toNat] at h9; rw [hb]; exact (setI_self (sCloses σ) 14) ▸ h9⟩
    · have hz : σ.1 14 ≠ 0 := by omega
      refine j_aload_n (pc := 50) dX1_begin_50 rfl ?_
      refine j2_get fa_X1_110_X1 (show h (o) = some (pO 0 [.ref (ad 1 0 0), .ref (ad 2 0 0), .ref (ad 3 0 0), .ref (ad 4 0 0), .ref (ad 12 0 0), IV (σ.1 0), .ref (ad 5 0 0), .ref (ad 6 0 0)]) from hR.top1 hz) rfl dX1_begin_51 ?_
      have n_3 : 0 ≤ σ.1 0 ∧ σ.1 0 ≤ 2100 := hB.1 0
      refine j_aload_n (pc := 54) dX1_begin_54 rfl ?_
      refine j2_get fa_X1_58_X1 (show h (o) = some (pO 0 [.ref (ad 1 0 0), .ref (ad 2 0 0), .ref (ad 3 0 0), .ref (ad 4 0 0), .ref (ad 12 0 0), IV (σ.1 0), .ref (ad 5 0 0), .ref (ad 6 0 0)]) from hR.top1 hz) rfl dX1_begin_55 ?_
      refine j2_get fa_X1_147_X9 (show h (ad 12 0 0) = some (pO 7 [IV (σ.1 15), IV (σ.1 16), IV (σ.1 17), .ref (ad 13 0 0), .ref (ad 14 0 0), .ref (ad 15 0 0), .ref (ad 16 0 0), .ref (ad 17 0 0), .ref (ad 18 0 0), IV (σ.1 14)]) from hR.at 12 0 0 ⟨hz, rfl, rfl⟩) rfl dX1_begin_58 ?_
      have n_4 : 0 ≤ σ.1 15 ∧ σ.1 15 ≤ 2000 := hB.1 15
      refine j_icmp_ne (pc := 61) (tgt := 75) dX1_begin_61 (by decide) (by omega) (by omega) (fun c_61 => ?_) (fun c_61 => ?_)
      · refine j_aload_n (pc := 75) dX1_begin_75 rfl ?_
        refine j_callV (pc := 76) (c_stage h o ad σ hR hB) (lw_V q172 q147 q148 q44 q149) rfl md_yX1_stage (RC.of2 (show h (o) = some (pO 0 [.ref (ad 1 0 0), .ref (ad 2 0 0), .ref (ad 3 0 0), .ref (ad 4 0 0), .ref (ad 12 0 0), IV (σ.1 0), .ref (ad 5 0 0), .ref (ad 6 0 0)]) from hR.top1 hz) rfl) (by decide) (by decide) rfl (Nat.le_of_ble_eq_true rfl) dX1_begin_76 (qI.k (fun r_76_1 s_76_1 q_76_1 => ?_))
        obtain ⟨e1q_76_1, e2q_76_1⟩ := q_76_1
        subst r_76_1
        subst s_76_1
        have n14_76 : 0 ≤ σ.1 14 ∧ σ.1 14 ≤ 5 := hB.1 14
        refine j_iconst (pc := 79) dX1_begin_79 rfl ?_
        refine j_icmp_ne (pc := 80) (tgt := 98) dX1_begin_80 (by decide) (by omega) (by decide) (fun c_80_1 => ?_) (fun c_80_1 => ?_)
        · refine j_vret (pc := 98) rfl (hQ _ ?_) dX1_begin_98
          have hb : sBegin σ = σ := by unfold sBegin; rw [if_neg (by omega), if_neg (by omega), if_neg (by omega)]
          exact ⟨ad, by rw [hb]; exact hR⟩
        · refine j_aload_n (pc := 83) dX1_begin_83 rfl ?_
          refine j2_get fa_X1_58_X1 (show h (o) = some (pO 0 [.ref (ad 1 0 0), .ref (ad 2 0 0), .ref (ad 3 0 0), .ref (ad 4 0 0), .ref (ad 12 0 0), IV (σ.1 0), .ref (ad 5 0 0), .ref (ad 6 0 0)]) from hR.top1 hz) rfl dX1_begin_84 ?_
          have hc1 : bgC σ = 240 := by unfold bgC; rw [if_neg (by omega), if_pos (by omega)]
          have hc2 : bgS σ = 36000 := by unfold bgS; rw [if_neg (by omega), if_pos (by omega)]
          refine j_room (cl' := (MC - 240) + 240) (sl' := (MS - 36000) + 36000) (by omega) (by omega) ?_
          refine j_callV (pc := 87) (c_openAll h hke hfe hbe hko8 o ad σ hR hB hz (by omega) (hcl (by omega)).1 (hcl (by omega)).2) (lw_V q808 q809 q810 q69 q811) rfl md_yX9_openAll (RC.of2 (show h (ad 12 0 0) = some (pO 7 [IV (σ.1 15), IV (σ.1 16), IV (σ.1 17), .ref (ad 13 0 0), .ref (ad 14 0 0), .ref (ad 15 0 0), .ref (ad 16 0 0), .ref (ad 17 0 0), .ref (ad 18 0 0), IV (σ.1 14)]) from hR.at 12 0 0 ⟨hz, rfl, rfl⟩) rfl) (by decide) (by decide) rfl (Nat.le_of_ble_eq_true rfl) dX1_begin_87 (qV.k (fun s_87_1 q_87_1 => ?_))
          obtain ⟨ad_87, R_m87⟩ := q_87_1
          have hz2 : (setI (sCloses σ) 14 3).1 14 ≠ 0 := by show (3 : Int) ≠ 0; decide
          refine j_aload_n (pc := 90) dX1_begin_90 rfl ?_
          refine j2_get fa_X1_58_X1 (show s_87_1 (o) = some (pO 0 [.ref (ad_87 1 0 0), .ref (ad_87 2 0 0), .ref (ad_87 3 0 0), .ref (ad_87 4 0 0), .ref (ad_87 12 0 0), IV ((sCloses σ).1 0), .ref (ad_87 5 0 0), .ref (ad_87 6 0 0)]) from R_m87.top1 (show (3 : Int) ≠ 0 by decide)) rfl dX1_begin_91 ?_
          refine j_iconst (pc := 94) dX1_begin_94 rfl ?_
          refine j2_put fp_X1_170_X9 (show s_87_1 (ad_87 12 0 0) = some (pO 7 [IV ((sCloses σ).1 15), IV ((sCloses σ).1 16), IV ((sCloses σ).1 17), .ref (ad_87 13 0 0), .ref (ad_87 14 0 0), .ref (ad_87 15 0 0), .ref (ad_87 16 0 0), .ref (ad_87 17 0 0), .ref (ad_87 18 0 0), IV 3]) from R_m87.at 12 0 0 ⟨(show (3 : Int) ≠ 0 by decide), rfl, rfl⟩) (by decide) (Nat.le_of_ble_eq_true rfl) rfl rfl dX1_begin_95 (fun h_95_1 e_95_1 => ?_)
          have z_5 : h_95_1 (ad_87 12 0 0) = some (pO 7 [IV ((sCloses σ).1 15), IV ((sCloses σ).1 16), IV ((sCloses σ).1 17), .ref (ad_87 13 0 0), .ref (ad_87 14 0 0), .ref (ad_87 15 0 0), .ref (ad_87 16 0 0), .ref (ad_87 17 0 0), .ref (ad_87 18 0 0), IV 4]) := by rw [e_95_1]; exact upH_self _ _ _
          have R_6 : Rel K h_95_1 o ad_87 (setI (setI (sCloses σ) 14 3) 14 4) := R_m87.stage (show (3 : Int) ≠ 0 by decide) (by decide) e_95_1
          refine j_vret (pc := 98) rfl (hQ _ ?_) dX1_begin_98
          have hb : sBegin σ = sCloses σ := by unfold sBegin; rw [if_neg (by omega), if_neg (by omega), if_pos (by omega)]
          exact ⟨ad_87, by have h9 := R_6; rw [setI_setI, ← sClN_14 σ (σ.1 26).toNat] at h9; rw [hb]; exact (setI_self (sCloses σ) 14) ▸ h9⟩
      · refine j_aload_n (pc := 64) dX1_begin_64 rfl ?_
        refine j2_get fa_X1_58_X1 (show h (o) = some (pO 0 [.ref (ad 1 0 0), .ref (ad 2 0 0), .ref (ad 3 0 0), .ref (ad 4 0 0), .ref (ad 12 0 0), IV (σ.1 0), .ref (ad 5 0 0), .ref (ad 6 0 0)]) from hR.top1 hz) rfl dX1_begin_65 ?_
        refine j_iconst (pc := 68) dX1_begin_68 rfl ?_
        refine j2_put fp_X1_170_X9 (show h (ad 12 0 0) = some (pO 7 [IV (σ.1 15), IV (σ.1 16), IV (σ.1 17), .ref (ad 13 0 0), .ref (ad 14 0 0), .ref (ad 15 0 0), .ref (ad 16 0 0), .ref (ad 17 0 0), .ref (ad 18 0 0), IV (σ.1 14)]) from hR.at 12 0 0 ⟨hz, rfl, rfl⟩) (by decide) (Nat.le_of_ble_eq_true rfl) rfl rfl dX1_begin_69 (fun h_69 e_69 => ?_)
        have z_7 : h_69 (ad 12 0 0) = some (pO 7 [IV (σ.1 15), IV (σ.1 16), IV (σ.1 17), .ref (ad 13 0 0), .ref (ad 14 0 0), .ref (ad 15 0 0), .ref (ad 16 0 0), .ref (ad 17 0 0), .ref (ad 18 0 0), IV 3]) := by rw [e_69]; exact upH_self _ _ _
        have R_8 : Rel K h_69 o ad (setI σ 14 3) := hR.stage hz (by decide) e_69
        refine j_goto (pc := 72) (tgt := 98) dX1_begin_72 (by decide) ?_
        refine j_vret (pc := 98) rfl (hQ _ ?_) dX1_begin_98
        have hb : sBegin σ = setI σ 14 3 := by unfold sBegin; rw [if_neg (by omega), if_pos ⟨by omega, by omega⟩]
        exact ⟨ad, by rw [hb]; exact R_8⟩
  · have hz : σ.1 14 ≠ 0 := by omega
    refine j_aload_n (pc := 8) dX1_begin_8 rfl ?_
    refine j2_get fa_X1_110_X1 (show h (o) = some (pO 0 [.ref (ad 1 0 0), .ref (ad 2 0 0), .ref (ad 3 0 0), .ref (ad 4 0 0), .ref (ad 12 0 0), IV (σ.1 0), .ref (ad 5 0 0), .ref (ad 6 0 0)]) from hR.top1 hz) rfl dX1_begin_9 ?_
    have n_9 : 0 ≤ σ.1 0 ∧ σ.1 0 ≤ 2100 := hB.1 0
    refine j_aload_n (pc := 12) dX1_begin_12 rfl ?_
    refine j2_get fa_X1_58_X1 (show h (o) = some (pO 0 [.ref (ad 1 0 0), .ref (ad 2 0 0), .ref (ad 3 0 0), .ref (ad 4 0 0), .ref (ad 12 0 0), IV (σ.1 0), .ref (ad 5 0 0), .ref (ad 6 0 0)]) from hR.top1 hz) rfl dX1_begin_13 ?_
    refine j2_get fa_X1_147_X9 (show h (ad 12 0 0) = some (pO 7 [IV (σ.1 15), IV (σ.1 16), IV (σ.1 17), .ref (ad 13 0 0), .ref (ad 14 0 0), .ref (ad 15 0 0), .ref (ad 16 0 0), .ref (ad 17 0 0), .ref (ad 18 0 0), IV (σ.1 14)]) from hR.at 12 0 0 ⟨hz, rfl, rfl⟩) rfl dX1_begin_16 ?_
    have n_10 : 0 ≤ σ.1 15 ∧ σ.1 15 ≤ 2000 := hB.1 15
    refine j_bipush (pc := 19) (a := 7) dX1_begin_19 (by decide) ?_
    refine j_isub (pc := 21) dX1_begin_21 ?_
    refine j_iconst (pc := 22) dX1_begin_22 rfl ?_
    refine j_iadd (pc := 23) dX1_begin_23 ?_
    refine j_icmp_ne (pc := 24) (tgt := 42) dX1_begin_24 (by decide) (by omega) (by omega) (fun c_24 => ?_) (fun c_24 => ?_)
    · refine j_aload_n (pc := 42) dX1_begin_42 rfl ?_
      refine j_callV (pc := 43) (c_stage h o ad σ hR hB) (lw_V q172 q147 q148 q44 q149) rfl md_yX1_stage (RC.of2 (show h (o) = some (pO 0 [.ref (ad 1 0 0), .ref (ad 2 0 0), .ref (ad 3 0 0), .ref (ad 4 0 0), .ref (ad 12 0 0), IV (σ.1 0), .ref (ad 5 0 0), .ref (ad 6 0 0)]) from hR.top1 hz) rfl) (by decide) (by decide) rfl (Nat.le_of_ble_eq_true rfl) dX1_begin_43 (qI.k (fun r_43_1 s_43_1 q_43_1 => ?_))
      obtain ⟨e1q_43_1, e2q_43_1⟩ := q_43_1
      subst r_43_1
      subst s_43_1
      have n14_43 : 0 ≤ σ.1 14 ∧ σ.1 14 ≤ 5 := hB.1 14
      refine j_iconst (pc := 46) dX1_begin_46 rfl ?_
      refine j_icmp_ne (pc := 47) (tgt := 75) dX1_begin_47 (by decide) (by omega) (by decide) (fun c_47_1 => ?_) (fun c_47_1 => ?_)
      · refine j_aload_n (pc := 75) dX1_begin_75 rfl ?_
        refine j_callV (pc := 76) (c_stage h o ad σ hR hB) (lw_V q172 q147 q148 q44 q149) rfl md_yX1_stage (RC.of2 (show h (o) = some (pO 0 [.ref (ad 1 0 0), .ref (ad 2 0 0), .ref (ad 3 0 0), .ref (ad 4 0 0), .ref (ad 12 0 0), IV (σ.1 0), .ref (ad 5 0 0), .ref (ad 6 0 0)]) from hR.top1 hz) rfl) (by decide) (by decide) rfl (Nat.le_of_ble_eq_true rfl) dX1_begin_76 (qI.k (fun r_76_1 s_76_1 q_76_1 => ?_))
        obtain ⟨e1q_76_1, e2q_76_1⟩ := q_76_1
        subst r_76_1
        subst s_76_1
        have n14_76 : 0 ≤ σ.1 14 ∧ σ.1 14 ≤ 5 := hB.1 14
        refine j_iconst (pc := 79) dX1_begin_79 rfl ?_
        refine j_icmp_ne (pc := 80) (tgt := 98) dX1_begin_80 (by decide) (by omega) (by decide) (fun c_80_1 => ?_) (fun c_80_1 => ?_)
        · refine j_vret (pc := 98) rfl (hQ _ ?_) dX1_begin_98
          have hb : sBegin σ = σ := by unfold sBegin; rw [if_neg (by omega), if_neg (by omega), if_neg (by omega)]
          exact ⟨ad, by rw [hb]; exact hR⟩
        · refine j_aload_n (pc := 83) dX1_begin_83 rfl ?_
          refine j2_get fa_X1_58_X1 (show h (o) = some (pO 0 [.ref (ad 1 0 0), .ref (ad 2 0 0), .ref (ad 3 0 0), .ref (ad 4 0 0), .ref (ad 12 0 0), IV (σ.1 0), .ref (ad 5 0 0), .ref (ad 6 0 0)]) from hR.top1 hz) rfl dX1_begin_84 ?_
          have hc1 : bgC σ = 240 := by unfold bgC; rw [if_neg (by omega), if_pos (by omega)]
          have hc2 : bgS σ = 36000 := by unfold bgS; rw [if_neg (by omega), if_pos (by omega)]
          refine j_room (cl' := (MC - 240) + 240) (sl' := (MS - 36000) + 36000) (by omega) (by omega) ?_
          refine j_callV (pc := 87) (c_openAll h hke hfe hbe hko8 o ad σ hR hB hz (by omega) (hcl (by omega)).1 (hcl (by omega)).2) (lw_V q808 q809 q810 q69 q811) rfl md_yX9_openAll (RC.of2 (show h (ad 12 0 0) = some (pO 7 [IV (σ.1 15), IV (σ.1 16), IV (σ.1 17), .ref (ad 13 0 0), .ref (ad 14 0 0), .ref (ad 15 0 0), .ref (ad 16 0 0), .ref (ad 17 0 0), .ref (ad 18 0 0), IV (σ.1 14)]) from hR.at 12 0 0 ⟨hz, rfl, rfl⟩) rfl) (by decide) (by decide) rfl (Nat.le_of_ble_eq_true rfl) dX1_begin_87 (qV.k (fun s_87_1 q_87_1 => ?_))
          obtain ⟨ad_87, R_m87⟩ := q_87_1
          have hz2 : (setI (sCloses σ) 14 3).1 14 ≠ 0 := by show (3 : Int) ≠ 0; decide
          refine j_aload_n (pc := 90) dX1_begin_90 rfl ?_
          refine j2_get fa_X1_58_X1 (show s_87_1 (o) = some (pO 0 [.ref (ad_87 1 0 0), .ref (ad_87 2 0 0), .ref (ad_87 3 0 0), .ref (ad_87 4 0 0), .ref (ad_87 12 0 0), IV ((sCloses σ).1 0), .ref (ad_87 5 0 0), .ref (ad_87 6 0 0)]) from R_m87.top1 (show (3 : Int) ≠ 0 by decide)) rfl dX1_begin_91 ?_
          refine j_iconst (pc := 94) dX1_begin_94 rfl ?_
          refine j2_put fp_X1_170_X9 (show s_87_1 (ad_87 12 0 0) = some (pO 7 [IV ((sCloses σ).1 15), IV ((sCloses σ).1 16), IV ((sCloses σ).1 17), .ref (ad_87 13 0 0), .ref (ad_87 14 0 0), .ref (ad_87 15 0 0), .ref (ad_87 16 0 0), .ref (ad_87 17 0 0), .ref (ad_87 18 0 0), IV 3]) from R_m87.at 12 0 0 ⟨(show (3 : Int) ≠ 0 by decide), rfl, rfl⟩) (by decide) (Nat.le_of_ble_eq_true rfl) rfl rfl dX1_begin_95 (fun h_95_1 e_95_1 => ?_)
          have z_11 : h_95_1 (ad_87 12 0 0) = some (pO 7 [IV ((sCloses σ).1 15), IV ((sCloses σ).1 16), IV ((sCloses σ).1 17), .ref (ad_87 13 0 0), .ref (ad_87 14 0 0), .ref (ad_87 15 0 0), .ref (ad_87 16 0 0), .ref (ad_87 17 0 0), .ref (ad_87 18 0 0), IV 4]) := by rw [e_95_1]; exact upH_self _ _ _
          have R_12 : Rel K h_95_1 o ad_87 (setI (setI (sCloses σ) 14 3) 14 4) := R_m87.stage (show (3 : Int) ≠ 0 by decide) (by decide) e_95_1
          refine j_vret (pc := 98) rfl (hQ _ ?_) dX1_begin_98
          have hb : sBegin σ = sCloses σ := by unfold sBegin; rw [if_neg (by omega), if_neg (by omega), if_pos (by omega)]
          exact ⟨ad_87, by have h9 := R_12; rw [setI_setI, ← sClN_14 σ (σ.1 26).toNat] at h9; rw [hb]; exact (setI_self (sCloses σ) 14) ▸ h9⟩
      · refine j_aload_n (pc := 50) dX1_begin_50 rfl ?_
        refine j2_get fa_X1_110_X1 (show h (o) = some (pO 0 [.ref (ad 1 0 0), .ref (ad 2 0 0), .ref (ad 3 0 0), .ref (ad 4 0 0), .ref (ad 12 0 0), IV (σ.1 0), .ref (ad 5 0 0), .ref (ad 6 0 0)]) from hR.top1 hz) rfl dX1_begin_51 ?_
        refine j_aload_n (pc := 54) dX1_begin_54 rfl ?_
        refine j2_get fa_X1_58_X1 (show h (o) = some (pO 0 [.ref (ad 1 0 0), .ref (ad 2 0 0), .ref (ad 3 0 0), .ref (ad 4 0 0), .ref (ad 12 0 0), IV (σ.1 0), .ref (ad 5 0 0), .ref (ad 6 0 0)]) from hR.top1 hz) rfl dX1_begin_55 ?_
        refine j2_get fa_X1_147_X9 (show h (ad 12 0 0) = some (pO 7 [IV (σ.1 15), IV (σ.1 16), IV (σ.1 17), .ref (ad 13 0 0), .ref (ad 14 0 0), .ref (ad 15 0 0), .ref (ad 16 0 0), .ref (ad 17 0 0), .ref (ad 18 0 0), IV (σ.1 14)]) from hR.at 12 0 0 ⟨hz, rfl, rfl⟩) rfl dX1_begin_58 ?_
        refine j_icmp_ne (pc := 61) (tgt := 75) dX1_begin_61 (by decide) (by omega) (by omega) (fun c_61_1 => ?_) (fun c_61_1 => ?_)
        · refine j_aload_n (pc := 75) dX1_begin_75 rfl ?_
          refine j_callV (pc := 76) (c_stage h o ad σ hR hB) (lw_V q172 q147 q148 q44 q149) rfl md_yX1_stage (RC.of2 (show h (o) = some (pO 0 [.ref (ad 1 0 0), .ref (ad 2 0 0), .ref (ad 3 0 0), .ref (ad 4 0 0), .ref (ad 12 0 0), IV (σ.1 0), .ref (ad 5 0 0), .ref (ad 6 0 0)]) from hR.top1 hz) rfl) (by decide) (by decide) rfl (Nat.le_of_ble_eq_true rfl) dX1_begin_76 (qI.k (fun r_76_1 s_76_1 q_76_1 => ?_))
          obtain ⟨e1q_76_1, e2q_76_1⟩ := q_76_1
          subst r_76_1
          subst s_76_1
          have n14_76 : 0 ≤ σ.1 14 ∧ σ.1 14 ≤ 5 := hB.1 14
          refine j_iconst (pc := 79) dX1_begin_79 rfl ?_
          refine j_icmp_ne (pc := 80) (tgt := 98) dX1_begin_80 (by decide) (by omega) (by decide) (fun c_80_1 => ?_) (fun c_80_1 => ?_)
          · refine j_vret (pc := 98) rfl (hQ _ ?_) dX1_begin_98
            have hb : sBegin σ = σ := by unfold sBegin; rw [if_neg (by omega), if_neg (by omega), if_neg (by omega)]
            exact ⟨ad, by rw [hb]; exact hR⟩
          · refine j_aload_n (pc := 83) dX1_begin_83 rfl ?_
            refine j2_get fa_X1_58_X1 (show h (o) = some (pO 0 [.ref (ad 1 0 0), .ref (ad 2 0 0), .ref (ad 3 0 0), .ref (ad 4 0 0), .ref (ad 12 0 0), IV (σ.1 0), .ref (ad 5 0 0), .ref (ad 6 0 0)]) from hR.top1 hz) rfl dX1_begin_84 ?_
            have hc1 : bgC σ = 240 := by unfold bgC; rw [if_neg (by omega), if_pos (by omega)]
            have hc2 : bgS σ = 36000 := by unfold bgS; rw [if_neg (by omega), if_pos (by omega)]
            refine j_room (cl' := (MC - 240) + 240) (sl' := (MS - 36000) + 36000) (by omega) (by omega) ?_
            refine j_callV (pc := 87) (c_openAll h hke hfe hbe hko8 o ad σ hR hB hz (by omega) (hcl (by omega)).1 (hcl (by omega)).2) (lw_V q808 q809 q810 q69 q811) rfl md_yX9_openAll (RC.of2 (show h (ad 12 0 0) = some (pO 7 [IV (σ.1 15), IV (σ.1 16), IV (σ.1 17), .ref (ad 13 0 0), .ref (ad 14 0 0), .ref (ad 15 0 0), .ref (ad 16 0 0), .ref (ad 17 0 0), .ref (ad 18 0 0), IV (σ.1 14)]) from hR.at 12 0 0 ⟨hz, rfl, rfl⟩) rfl) (by decide) (by decide) rfl (Nat.le_of_ble_eq_true rfl) dX1_begin_87 (qV.k (fun s_87_1 q_87_1 => ?_))
            obtain ⟨ad_87, R_m87⟩ := q_87_1
            have hz2 : (setI (sCloses σ) 14 3).1 14 ≠ 0 := by show (3 : Int) ≠ 0; decide
            refine j_aload_n (pc := 90) dX1_begin_90 rfl ?_
            refine j2_get fa_X1_58_X1 (show s_87_1 (o) = some (pO 0 [.ref (ad_87 1 0 0), .ref (ad_87 2 0 0), .ref (ad_87 3 0 0), .ref (ad_87 4 0 0), .ref (ad_87 12 0 0), IV ((sCloses σ).1 0), .ref (ad_87 5 0 0), .ref (ad_87 6 0 0)]) from R_m87.top1 (show (3 : Int) ≠ 0 by decide)) rfl dX1_begin_91 ?_
            refine j_iconst (pc := 94) dX1_begin_94 rfl ?_
            refine j2_put fp_X1_170_X9 (show s_87_1 (ad_87 12 0 0) = some (pO 7 [IV ((sCloses σ).1 15), IV ((sCloses σ).1 16), IV ((sCloses σ).1 17), .ref (ad_87 13 0 0), .ref (ad_87 14 0 0), .ref (ad_87 15 0 0), .ref (ad_87 16 0 0), .ref (ad_87 17 0 0), .ref (ad_87 18 0 0), IV 3]) from R_m87.at 12 0 0 ⟨(show (3 : Int) ≠ 0 by decide), rfl, rfl⟩) (by decide) (Nat.le_of_ble_eq_true rfl) rfl rfl dX1_begin_95 (fun h_95_1 e_95_1 => ?_)
            have z_13 : h_95_1 (ad_87 12 0 0) = some (pO 7 [IV ((sCloses σ).1 15), IV ((sCloses σ).1 16), IV ((sCloses σ).1 17), .ref (ad_87 13 0 0), .ref (ad_87 14 0 0), .ref (ad_87 15 0 0), .ref (ad_87 16 0 0), .ref (ad_87 17 0 0), .ref (ad_87 18 0 0), IV 4]) := by rw [e_95_1]; exact upH_self _ _ _
            have R_14 : Rel K h_95_1 o ad_87 (setI (setI (sCloses σ) 14 3) 14 4) := R_m87.stage (show (3 : Int) ≠ 0 by decide) (by decide) e_95_1
            refine j_vret (pc := 98) rfl (hQ _ ?_) dX1_begin_98
            have hb : sBegin σ = sCloses σ := by unfold sBegin; rw [if_neg (by omega), if_neg (by omega), if_pos (by omega)]
            exact ⟨ad_87, by have h9 := R_14; rw [setI_setI, ← sClN_14 σ (σ.1 26).toNat] at h9; rw [hb]; exact (setI_self (sCloses σ) 14) ▸ h9⟩
        · refine j_aload_n (pc := 64) dX1_begin_64 rfl ?_
          refine j2_get fa_X1_58_X1 (show h (o) = some (pO 0 [.ref (ad 1 0 0), .ref (ad 2 0 0), .ref (ad 3 0 0), .ref (ad 4 0 0), .ref (ad 12 0 0), IV (σ.1 0), .ref (ad 5 0 0), .ref (ad 6 0 0)]) from hR.top1 hz) rfl dX1_begin_65 ?_
          refine j_iconst (pc := 68) dX1_begin_68 rfl ?_
          refine j2_put fp_X1_170_X9 (show h (ad 12 0 0) = some (pO 7 [IV (σ.1 15), IV (σ.1 16), IV (σ.1 17), .ref (ad 13 0 0), .ref (ad 14 0 0), .ref (ad 15 0 0), .ref (ad 16 0 0), .ref (ad 17 0 0), .ref (ad 18 0 0), IV (σ.1 14)]) from hR.at 12 0 0 ⟨hz, rfl, rfl⟩) (by decide) (Nat.le_of_ble_eq_true rfl) rfl rfl dX1_begin_69 (fun h_69_1 e_69_1 => ?_)
          have z_15 : h_69_1 (ad 12 0 0) = some (pO 7 [IV (σ.1 15), IV (σ.1 16), IV (σ.1 17), .ref (ad 13 0 0), .ref (ad 14 0 0), .ref (ad 15 0 0), .ref (ad 16 0 0), .ref (ad 17 0 0), .ref (ad 18 0 0), IV 3]) := by rw [e_69_1]; exact upH_self _ _ _
          have R_16 : Rel K h_69_1 o ad (setI σ 14 3) := hR.stage hz (by decide) e_69_1
          refine j_goto (pc := 72) (tgt := 98) dX1_begin_72 (by decide) ?_
          refine j_vret (pc := 98) rfl (hQ _ ?_) dX1_begin_98
          have hb : sBegin σ = setI σ 14 3 := by unfold sBegin; rw [if_neg (by omega), if_pos ⟨by omega, by omega⟩]
          exact ⟨ad, by rw [hb]; exact R_16⟩
    · refine j_aload_n (pc := 27) dX1_begin_27 rfl ?_
      have hc1 : bgC σ = 20 := if_pos ⟨by omega, by omega⟩
      have hc2 : bgS σ = 200 := if_pos ⟨by omega, by omega⟩
      obtain ⟨hr1, hr2, hr3, hr4⟩ := hroll (by omega) (by omega)
      refine j_room (cl' := (MC - 20) + 20) (sl' := (MS - 200) + 200) (by omega) (by omega) ?_
      refine j_callV (pc := 28) (c_makeRoll h hke hfe hne hko10 o ad σ hR hB hz (by omega) hr2 hr3 hr1 hr4) (lw_V q773 q775 qs14 q44 q776) rfl md_yX1_makeRoll (RC.of2 (show h (o) = some (pO 0 [.ref (ad 1 0 0), .ref (ad 2 0 0), .ref (ad 3 0 0), .ref (ad 4 0 0), .ref (ad 12 0 0), IV (σ.1 0), .ref (ad 5 0 0), .ref (ad 6 0 0)]) from hR.top1 hz) rfl) (by decide) (by decide) rfl (Nat.le_of_ble_eq_true rfl) dX1_begin_28 (qV.k (fun s_28 q_28 => ?_))
      obtain ⟨ad_28, R_m28⟩ := q_28
      have hz1 : (setI (sRoll σ) 14 1).1 14 ≠ 0 := by show (1 : Int) ≠ 0; decide
      refine j_aload_n (pc := 31) dX1_begin_31 rfl ?_
      refine j2_get fa_X1_58_X1 (show s_28 (o) = some (pO 0 [.ref (ad_28 1 0 0), .ref (ad_28 2 0 0), .ref (ad_28 3 0 0), .ref (ad_28 4 0 0), .ref (ad_28 12 0 0), IV ((sRoll σ).1 0), .ref (ad_28 5 0 0), .ref (ad_28 6 0 0)]) from R_m28.top1 (show (1 : Int) ≠ 0 by decide)) rfl dX1_begin_32 ?_
      refine j_iconst (pc := 35) dX1_begin_35 rfl ?_
      refine j2_put fp_X1_170_X9 (show s_28 (ad_28 12 0 0) = some (pO 7 [IV ((sRoll σ).1 15), IV ((sRoll σ).1 16), IV ((sRoll σ).1 17), .ref (ad_28 13 0 0), .ref (ad_28 14 0 0), .ref (ad_28 15 0 0), .ref (ad_28 16 0 0), .ref (ad_28 17 0 0), .ref (ad_28 18 0 0), IV 1]) from R_m28.at 12 0 0 ⟨(show (1 : Int) ≠ 0 by decide), rfl, rfl⟩) (by decide) (Nat.le_of_ble_eq_true rfl) rfl rfl dX1_begin_36 (fun h_36 e_36 => ?_)
      have z_17 : h_36 (ad_28 12 0 0) = some (pO 7 [IV ((sRoll σ).1 15), IV ((sRoll σ).1 16), IV ((sRoll σ).1 17), .ref (ad_28 13 0 0), .ref (ad_28 14 0 0), .ref (ad_28 15 0 0), .ref (ad_28 16 0 0), .ref (ad_28 17 0 0), .ref (ad_28 18 0 0), IV 2]) := by rw [e_36]; exact upH_self _ _ _
      have R_18 : Rel K h_36 o ad_28 (setI (setI (sRoll σ) 14 1) 14 2) := R_m28.stage (show (1 : Int) ≠ 0 by decide) (by decide) e_36
      refine j_goto (pc := 39) (tgt := 98) dX1_begin_39 (by decide) ?_
      refine j_vret (pc := 98) rfl (hQ _ ?_) dX1_begin_98
      have hb : sBegin σ = sRoll σ := if_pos ⟨by omega, by omega⟩
      exact ⟨ad_28, by have h9 := R_18; rw [setI_setI, ← sRoll_14 σ, setI_self] at h9; rw [hb]; exact h9⟩

theorem fp_X1_110_X1 : FP RX1 110 0 5 (.int) false := ⟨RX1, TX1, 8, "BallotFoundry", tyX1, rfl, in_X1, by decide, q121, Or.inl rfl, tyX1_ok, nmX1, rfl, rfl, fun h => nomatch h⟩
theorem md_yX1_begin : MD yX1_begin 0 := by decide +kernel
set_option maxHeartbeats 4000000 in
theorem c_advance {Γ : GG} {A : Nat → Prop} {K : KK} {l : Launch} (h : AL2) (hfl : l.stackTraces = false) (hke : KE Γ A K) (hfe : FE Γ) (hIOB : TH5 Γ A "java/lang/IndexOutOfBoundsException") (hIAE : TH5 Γ A "java/lang/IllegalArgumentException") (hISE : TH5 Γ A "java/lang/IllegalStateException") (o : Nat) (ad : AD) (σ : MM) (hR : Rel K h o ad σ) (hB : Bd σ) (n : Int) (hn : RR n) (hbe : BE Γ A K) (hko8 : KO Γ RX8) (hne : NE Γ) (hko10 : KO Γ RX10) {T : Nat} (hT : T ≤ 64) (hI : In σ) (hN : NB σ T) : Ct Γ A (Rep2 Γ A K) l yX1_advance (ws_ yX1_advance cX1_advance 3 (some .int)) 15 270 36300 [.ref o, IV n] h (qI (fun (r : Int) (h' : AL2) => t2 (1 ≤ n ∧ n ≤ 100) (σ.1 0 + n ≤ 2100) = 0 ∧ r = σ.1 0 + n ∧ ∃ ad', Rel K h' o ad' (sAdv σ n.toNat))) (fun (E : String) (h' : AL2) => xE ["java/lang/IllegalArgumentException", "java/lang/IllegalStateException"] (t2 (1 ≤ n ∧ n ≤ 100) (σ.1 0 + n ≤ 2100)) E ∧ ∃ ad', Rel K h' o ad' σ) := by
  refine Ct.ofJ (own := RX1) (nm := "advance") (lo := [some (.ref o), some (IV n), none]) pn_X1 rfl rfl (List.forall_mem_cons.mpr ⟨rfl, (List.forall_mem_cons.mpr ⟨rfl, (fun _ h => nomatch h)⟩)⟩) (Nat.le_of_ble_eq_true rfl) rfl ?_
  have hQ : ∀ (r : Int) (h' : AL2), (t2 (1 ≤ n ∧ n ≤ 100) (σ.1 0 + n ≤ 2100) = 0 ∧ r = σ.1 0 + n ∧ ∃ ad', Rel K h' o ad' (sAdv σ n.toNat)) → (qI (fun (r : Int) (h' : AL2) => t2 (1 ≤ n ∧ n ≤ 100) (σ.1 0 + n ≤ 2100) = 0 ∧ r = σ.1 0 + n ∧ ∃ ad', Rel K h' o ad' (sAdv σ n.toNat))) (some (IV r)) h' := fun r h' h => ⟨r, rfl, h⟩
  generalize (qI (fun (r : Int) (h' : AL2) => t2 (1 ≤ n ∧ n ≤ 100) (σ.1 0 + n ≤ 2100) = 0 ∧ r = σ.1 0 + n ∧ ∃ ad', Rel K h' o ad' (sAdv σ n.toNat))) = QP at hQ ⊢
  have hX : ∀ (E : String) (h' : AL2), (xE ["java/lang/IllegalArgumentException", "java/lang/IllegalStateException"] (t2 (1 ≤ n ∧ n ≤ 100) (σ.1 0 + n ≤ 2100)) E ∧ ∃ ad', Rel K h' o ad' σ) → (fun (E : String) (h' : AL2) => xE ["java/lang/IllegalArgumentException", "java/lang/IllegalStateException"] (t2 (1 ≤ n ∧ n ≤ 100) (σ.1 0 + n ≤ 2100)) E ∧ ∃ ad', Rel K h' o ad' σ) E h' := fun E h' h => h
  generalize (fun (E : String) (h' : AL2) => xE ["java/lang/IllegalArgumentException", "java/lang/IllegalStateException"] (t2 (1 ≤ n ∧ n ≤ 100) (σ.1 0 + n ≤ 2100)) E ∧ ∃ ad', Rel K h' o ad' σ) = XP at hX ⊢
  have n0 : 0 ≤ σ.1 0 ∧ σ.1 0 ≤ 2100 := hB.1 0
  have cB : cC σ ≤ 260 ∧ cS σ ≤ 36200 := by unfold cC cS; (repeat' split) <;> omega
  refine j_iload_n (pc := 0) dX1_advance_0 rfl ?_
  refine j_iconst (pc := 1) dX1_advance_1 rfl ?_
  refine j_bipush (pc := 2) (a := 100) dX1_advance_2 (by decide) ?_
  refine j_callS (pc := 4) (c_isIn h n 1 100 (by omega) (by decide) (by decide)) (lw_S q440 q441 q44 q442) md_yX1_isIn (by decide) (by decide) rfl (Nat.le_of_ble_eq_true rfl) dX1_advance_4 (qI.k (fun r_4 s_4 q_4 => ?_))
  obtain ⟨e1q_4, e2q_4⟩ := q_4
  subst r_4
  subst s_4
  refine j_room (cl' := 269 + 1) (sl' := 36294 + 6) (by omega) (by omega) ?_
  refine j_callSx (pc := 7) (c_want h hfl RG.of2 hIAE (bI (1 ≤ n ∧ n ≤ 100)) (bI_01 _)) (lw_S q403 q404 q44 q405) md_yX1_want (nT _) (fun E x9 hx9 => by obtain ⟨hn9, rfl, rfl⟩ := hx9; (try have hn8 := bI_0 hn9); exact hX _ _ ⟨xE_of 0 (by unfold t2; (repeat' split) <;> omega) rfl, ad, hR⟩) (by decide) (by decide) rfl (Nat.le_of_ble_eq_true rfl) dX1_advance_7 (qV.k (fun s_7 q_7 => ?_))
  obtain ⟨q_7b, q_7e⟩ := q_7
  subst s_7
  have q_7c := bI_1 q_7b
  refine j_aload_n (pc := 10) dX1_advance_10 rfl ?_
  refine j2_get fa_X1_110_X1 (show h (o) = some (pO 0 [.ref (ad 1 0 0), .ref (ad 2 0 0), .ref (ad 3 0 0), .ref (ad 4 0 0), va_rf (if σ.1 14 = 0 then none else some (ad 12 0 0)), IV (σ.1 0), .ref (ad 5 0 0), .ref (ad 6 0 0)]) from hR.top) rfl dX1_advance_11 ?_
  have n_1 : 0 ≤ σ.1 0 ∧ σ.1 0 ≤ 2100 := hB.1 0
  refine j_iload_n (pc := 14) dX1_advance_14 rfl ?_
  refine j_iadd (pc := 15) dX1_advance_15 ?_
  refine j_sipush (pc := 16) (a := 2100) dX1_advance_16 (by decide) ?_
  refine j_icmp_gt (pc := 19) (tgt := 26) dX1_advance_19 (by decide) (by omega) (by decide) (fun c_19 => ?_) (fun c_19 => ?_)
  · refine j_iconst (pc := 26) dX1_advance_26 rfl ?_
    refine j_room (cl' := 268 + 1) (sl' := 36288 + 6) (by omega) (by omega) ?_
    refine j_callSx (pc := 27) (c_allow h hfl RG.of2 hISE 0 (Or.inl rfl)) (lw_S q443 q444 q44 q445) md_yX1_allow (nT _) (fun E x9 hx9 => by obtain ⟨hn9, rfl, rfl⟩ := hx9; (try have hn8 := bI_0 hn9); exact hX _ _ ⟨xE_of 1 (by unfold t2; (repeat' split) <;> omega) rfl, ad, hR⟩) (by decide) (by decide) rfl (Nat.le_of_ble_eq_true rfl) dX1_advance_27 (qV.k (fun s_27 q_27 => ?_))
    exact absurd q_27.1 (by decide)
  · refine j_iconst (pc := 22) dX1_advance_22 rfl ?_
    refine j_goto (pc := 23) (tgt := 27) dX1_advance_23 (by decide) ?_
    refine j_room (cl' := 268 + 1) (sl' := 36288 + 6) (by omega) (by omega) ?_
    refine j_callSx (pc := 27) (c_allow h hfl RG.of2 hISE 1 (Or.inr rfl)) (lw_S q443 q444 q44 q445) md_yX1_allow (nT _) (fun E x9 hx9 => by obtain ⟨hn9, rfl, rfl⟩ := hx9; (try have hn8 := bI_0 hn9); exact hX _ _ ⟨xE_of 1 (by unfold t2; (repeat' split) <;> omega) rfl, ad, hR⟩) (by decide) (by decide) rfl (Nat.le_of_ble_eq_true rfl) dX1_advance_27 (qV.k (fun s_27_1 q_27_1 => ?_))
    obtain ⟨q_27_1b, q_27_1e⟩ := q_27_1
    subst s_27_1
    refine j_iconst (pc := 30) dX1_advance_30 rfl ?_
    refine j_istore_n (pc := 31) dX1_advance_31 (by decide) (lo' := [some (.ref o), some (IV n), some (IV 0)]) rfl ?_
    have hl_32 : ∀ (fu : Nat) (k : Nat) (g : AL2) (ad9 : AD) (u : MM), n.toNat - k < fu → (k : Int) ≤ n → u = sAdv σ k → Rel K g o ad9 u → J Γ A (Rep2 Γ A K) l RX1 "advance" cX1_advance 3 (some .int) [] 15 270 36300 QP XP (cC u + 0) (cS u + 0) g 32 [some (.ref o), some (IV n), some (IV (k : Int))] [] := by
      intro fu
      induction fu with
      | zero => intro k g ad9 u hm; exact absurd hm (Nat.not_lt_zero _)
      | succ fu ih_32 =>
        intro k g ad9 u hm hk hu hg
        obtain ⟨h1, h2, h3⟩ := hI.adv hT hN k (by omega)
        rw [← hu] at h1 h2 h3
        have hBu := h1.1
        have hcd := cost_day u
        refine j_iload_n (pc := 32) dX1_advance_32 rfl ?_
        refine j_iload_n (pc := 33) dX1_advance_33 rfl ?_
        refine j_icmp_ge (pc := 34) (tgt := 57) dX1_advance_34 (by decide) (by omega) (by omega) (fun c_34 => ?_) (fun c_34 => ?_)
        · refine j_aload_n (pc := 57) dX1_advance_57 rfl ?_
          refine j2_get fa_X1_110_X1 (show g (o) = some (pO 0 [.ref (ad9 1 0 0), .ref (ad9 2 0 0), .ref (ad9 3 0 0), .ref (ad9 4 0 0), va_rf (if u.1 14 = 0 then none else some (ad9 12 0 0)), IV (u.1 0), .ref (ad9 5 0 0), .ref (ad9 6 0 0)]) from hg.top) rfl dX1_advance_58 ?_
          have n_2 : 0 ≤ u.1 0 ∧ u.1 0 ≤ 2100 := hBu.1 0
          refine j_iret (pc := 61) rfl (hQ _ _ ?_) dX1_advance_61
          exact ⟨by unfold t2; (repeat' split) <;> omega, by omega, ad9, by rw [show n.toNat = k by omega, ← hu]; exact hg⟩
        · refine j_aload_n (pc := 37) dX1_advance_37 rfl ?_
          refine j_dup (pc := 38) dX1_advance_38 rfl ?_
          refine j2_get fa_X1_110_X1 (show g (o) = some (pO 0 [.ref (ad9 1 0 0), .ref (ad9 2 0 0), .ref (ad9 3 0 0), .ref (ad9 4 0 0), va_rf (if u.1 14 = 0 then none else some (ad9 12 0 0)), IV (u.1 0), .ref (ad9 5 0 0), .ref (ad9 6 0 0)]) from hg.top) rfl dX1_advance_39 ?_
          have n_3 : 0 ≤ u.1 0 ∧ u.1 0 ≤ 2100 := hBu.1 0
          refine j_iconst (pc := 42) dX1_advance_42 rfl ?_
          refine j_iadd (pc := 43) dX1_advance_43 ?_
          refine j2_put fp_X1_110_X1 (show g (o) = some (pO 0 [.ref (ad9 1 0 0), .ref (ad9 2 0 0), .ref (ad9 3 0 0), .ref (ad9 4 0 0), va_rf (if u.1 14 = 0 then none else some (ad9 12 0 0)), IV (u.1 0), .ref (ad9 5 0 0), .ref (ad9 6 0 0)]) from hg.top) (by decide) (Nat.le_of_ble_eq_true rfl) rfl rfl dX1_advance_44 (fun h_44 e_44 => ?_)
          have z_4 : h_44 o = some (pO 0 [.ref (ad9 1 0 0), .ref (ad9 2 0 0), .ref (ad9 3 0 0), .ref (ad9 4 0 0), va_rf (if u.1 14 = 0 then none else some (ad9 12 0 0)), IV ((u.1 0) + 1), .ref (ad9 5 0 0), .ref (ad9 6 0 0)]) := by rw [e_44]; exact upH_self _ _ _
          have R_5 : Rel K h_44 o ad9 (setI u 0 ((u.1 0) + 1)) := hg.today e_44
          refine j_aload_n (pc := 47) dX1_advance_47 rfl ?_
          refine j_room (cl' := ((cC u + 0) - bgC (setI u 0 ((u.1 0) + 1))) + bgC (setI u 0 ((u.1 0) + 1))) (sl' := ((cS u + 0) - bgS (setI u 0 ((u.1 0) + 1))) + (bgS (setI u 0 ((u.1 0) + 1)))) (by omega) (by omega) ?_
          refine j_callV (pc := 48) (c_begin h_44 (bgC (setI u 0 ((u.1 0) + 1))) (bgS (setI u 0 ((u.1 0) + 1))) hke hfe hbe hko8 hne hko10 o ad9 (setI u 0 ((u.1 0) + 1)) R_5 (Bd.i hBu (by show 0 ≤ u.1 0 + 1 ∧ u.1 0 + 1 ≤ 2100; omega)) (fun q1 q2 => ⟨h1.rollPre q1 (by have q3 : u.1 0 + 1 = u.1 15 - 6 := q2; omega), (h1.s1 (by have q3 : u.1 14 = 1 := q1; omega)).1, fun s h5 h0 => h1.2.2.2.2.1 s h5 (by have q3 := (h1.s1 (by have q4 : u.1 14 = 1 := q1; omega)).1; omega), h1.2.2.2.2.2.2.2.2.2.2.2.1.1 (by have q3 : u.1 14 = 1 := q1; omega)⟩) (fun q1 => ⟨h1.stage4 (d := u.1 0 + 1) (by have q3 : u.1 14 = 3 := q1; omega) (by omega), by have h9 := h2.2; rw [if_neg (by have q3 : u.1 14 = 3 := q1; omega)] at h9; show u.1 42 ≤ 130; omega⟩) (Nat.le_refl _) (Nat.le_refl _)) (lw_V q769 q771 qs13 q44 q772) rfl md_yX1_begin (RC.of2 z_4 rfl) (by decide) (by decide) rfl (Nat.le_of_ble_eq_true rfl) dX1_advance_48 (qV.k (fun s_48 q_48 => ?_))
          obtain ⟨ad_48, R_m48⟩ := q_48
          refine j_iinc (pc := 51) dX1_advance_51 rfl (by decide) (lo' := [some (.ref o), some (IV n), some (IV ((k : Int) + 1))]) rfl ?_
          refine j_goto (pc := 54) (tgt := 32) dX1_advance_54 (by decide) ?_
          exact j_room (by omega) (by omega) (ih_32 (k + 1) s_48 ad_48 (sBegin (setI u 0 ((u.1 0) + 1))) (by omega) (by omega) (by show _ = sDay (sAdv σ k); rw [← hu]; rfl) R_m48)
    exact j_room (by omega) (by omega) (hl_32 _ 0 h ad σ (Nat.lt_succ_self _) (by omega) rfl hR)

