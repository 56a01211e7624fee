set_option maxRecDepth 100000
theorem fa_X1_23_X1 : FA RX1 23 0 3 := ⟨RX1, TX1, 8, "BallotFoundry", rfl, in_X1, by decide, q119, Or.inl rfl⟩
theorem md_yX1_isIn : MD yX1_isIn 3 := by decide +kernel
set_option maxHeartbeats 4000000 in
theorem c_setSlip {Γ : GG} {A : Nat → Prop} {K : KK} {l : Launch} (h : AL2) (hfl : l.stackTraces = false) (hke : KE Γ A K) (hfe : FE Γ) (hIOB : TH5 Γ A "java/lang/IndexOutOfBoundsException") (hIAE : TH5 Γ A "java/lang/IllegalArgumentException") (hISE : TH5 Γ A "java/lang/IllegalStateException") (o : Nat) (ad : AD) (σ : MM) (hR : Rel K h o ad σ) (hB : Bd σ) (c : Int) (hc : RR c) (v : Int) (hv : RR v)  : Ct Γ A (Rep2 Γ A K) l yX1_setSlip (ws_ yX1_setSlip cX1_setSlip 4 (some .int)) 8 3 14 [.ref o, IV c, IV v] h (qI (fun (r : Int) (h' : AL2) => t2 (0 ≤ c ∧ c ≤ 3) (v = 0 ∨ (2 ≤ v ∧ v ≤ 20)) = 0 ∧ r = σ.2 33 c.toNat ∧ ∃ ad', Rel K h' o ad' (setA σ 33 c.toNat v))) (fun (E : String) (h' : AL2) => xE ["java/lang/IndexOutOfBoundsException", "java/lang/IllegalArgumentException"] (t2 (0 ≤ c ∧ c ≤ 3) (v = 0 ∨ (2 ≤ v ∧ v ≤ 20))) E ∧ ∃ ad', Rel K h' o ad' σ) := by
  refine Ct.ofJ (own := RX1) (nm := "setSlip") (lo := [some (.ref o), some (IV c), some (IV v), none]) pn_X1 rfl rfl (List.forall_mem_cons.mpr ⟨rfl, (List.forall_mem_cons.mpr ⟨rfl, (List.forall_mem_cons.mpr ⟨rfl, (fun _ h => nomatch h)⟩)⟩)⟩) (Nat.le_of_ble_eq_true rfl) rfl ?_
  have hQ : ∀ (r : Int) (h' : AL2), (t2 (0 ≤ c ∧ c ≤ 3) (v = 0 ∨ (2 ≤ v ∧ v ≤ 20)) = 0 ∧ r = σ.2 33 c.toNat ∧ ∃ ad', Rel K h' o ad' (setA σ 33 c.toNat v)) → (qI (fun (r : Int) (h' : AL2) => t2 (0 ≤ c ∧ c ≤ 3) (v = 0 ∨ (2 ≤ v ∧ v ≤ 20)) = 0 ∧ r = σ.2 33 c.toNat ∧ ∃ ad', Rel K h' o ad' (setA σ 33 c.toNat v))) (some (IV r)) h' := fun r h' h => ⟨r, rfl, h⟩
  generalize (qI (fun (r : Int) (h' : AL2) => t2 (0 ≤ c ∧ c ≤ 3) (v = 0 ∨ (2 ≤ v ∧ v ≤ 20)) = 0 ∧ r = σ.2 33 c.toNat ∧ ∃ ad', Rel K h' o ad' (setA σ 33 c.toNat v))) = QP at hQ ⊢
  have hX : ∀ (E : String) (h' : AL2), (xE ["java/lang/IndexOutOfBoundsException", "java/lang/IllegalArgumentException"] (t2 (0 ≤ c ∧ c ≤ 3) (v = 0 ∨ (2 ≤ v ∧ v ≤ 20))) E ∧ ∃ ad', Rel K h' o ad' σ) → (fun (E : String) (h' : AL2) => xE ["java/lang/IndexOutOfBoundsException", "java/lang/IllegalArgumentException"] (t2 (0 ≤ c ∧ c ≤ 3) (v = 0 ∨ (2 ≤ v ∧ v ≤ 20))) E ∧ ∃ ad', Rel K h' o ad' σ) E h' := fun E h' h => h
  generalize (fun (E : String) (h' : AL2) => xE ["java/lang/IndexOutOfBoundsException", "java/lang/IllegalArgumentException"] (t2 (0 ≤ c ∧ c ≤ 3) (v = 0 ∨ (2 ≤ v ∧ v ≤ 20))) E ∧ ∃ ad', Rel K h' o ad' σ) = XP at hX ⊢
  refine j_iconst (pc := 0) dX1_setSlip_0 rfl ?_
  refine j_room (cl' := 2 + 1) (sl' := 12 + 2) (by omega) (by omega) ?_
  refine j2_newa (i := 2) (N := 2) (atype := .int) hke.1 (Or.inl ⟨rfl, rfl⟩) q141 (by omega) (by omega) (by omega) dX1_setSlip_1 (fun a_1 h_1 n_1 e_1 => ?_)
  have z_1 : h_1 a_1 = some (pA 0 2 (fun _ => 0)) := by rw [e_1]; exact upH_self _ _ _
  have fo_a_1 : ∀ k i j, live σ k i j → ad k i j ≠ a_1 := fun k i j hl => hR.fresh n_1 hl
  have R_2 : Rel K h_1 o ad σ := hR.other (fun b c hb => by rw [e_1]; exact upH_old hb n_1)
  refine j_dup (pc := 3) dX1_setSlip_3 rfl ?_
  refine j_iconst (pc := 4) dX1_setSlip_4 rfl ?_
  refine j_iload_n (pc := 5) dX1_setSlip_5 rfl ?_
  refine j2_iast (i := 0) z_1 (by show 0 ≤ 0 ∧ 0 < ((2 : Nat) : Int); omega) dX1_setSlip_6 (fun h_6 e_6 => ?_)
  have z_3 : h_6 a_1 = some (pA 0 2 (uA (fun _ => 0) 0 c)) := by rw [e_6]; exact upH_self _ _ _
  have R_4 : Rel K h_6 o ad σ := R_2.off e_6 fo_a_1
  refine j_dup (pc := 7) dX1_setSlip_7 rfl ?_
  refine j_iconst (pc := 8) dX1_setSlip_8 rfl ?_
  refine j_iconst (pc := 9) dX1_setSlip_9 rfl ?_
  refine j2_iast (i := 1) z_3 (by show 0 ≤ 1 ∧ 1 < ((2 : Nat) : Int); omega) dX1_setSlip_10 (fun h_10 e_10 => ?_)
  have z_5 : h_10 a_1 = some (pA 0 2 (uA (uA (fun _ => 0) 0 c) 1 4)) := by rw [e_10]; exact upH_self _ _ _
  have R_6 : Rel K h_10 o ad σ := R_4.off e_10 fo_a_1
  refine j_room (cl' := 1 + 1) (sl' := 6 + 6) (by omega) (by omega) ?_
  refine j_callSx (pc := 11) (c_exist h_10 hfl RG.of2 hIOB a_1 1 (uA (uA (fun _ => 0) 0 c) 1 4) (rrA (rrA rr0 (by omega)) (by decide)) (by decide) z_5) (lw_S q370 q371 q44 q372) md_yX1_exist (nT _) (fun E x9 hx9 => by obtain ⟨rfl, hn9, rfl⟩ := hx9; rw [ex1] at hn9; exact hX _ _ ⟨xE_of 0 (by unfold t2; (repeat' split) <;> omega) rfl, ad, R_6⟩) (by decide) (by decide) rfl (Nat.le_of_ble_eq_true rfl) dX1_setSlip_11 (qV.k (fun s_11 q_11 => ?_))
  obtain ⟨q_11a, q_11e⟩ := q_11
  subst s_11
  have q_11b := ex1.mp q_11a
  refine j_iload_n (pc := 14) dX1_setSlip_14 rfl ?_
  refine j_if_eq (pc := 15) (tgt := 28) dX1_setSlip_15 (by decide) (by omega) (fun c_15 => ?_) (fun c_15 => ?_)
  · refine j_iconst (pc := 28) dX1_setSlip_28 rfl ?_
    refine j_goto (pc := 29) (tgt := 33) dX1_setSlip_29 (by decide) ?_
    refine j_room (cl' := 0 + 1) (sl' := 0 + 6) (by omega) (by omega) ?_
    refine j_callSx (pc := 33) (c_want h_10 hfl RG.of2 hIAE 1 (Or.inr rfl)) (lw_S q403 q404 q44 q405) md_yX1_want (nT _) (fun E x9 hx9 => by obtain ⟨hn9, rfl, rfl⟩ := hx9; (try have hn8 := bI_0 hn9); exact hX _ _ ⟨xE_of 1 (by unfold t2; (repeat' split) <;> omega) rfl, ad, R_6⟩) (by decide) (by decide) rfl (Nat.le_of_ble_eq_true rfl) dX1_setSlip_33 (qV.k (fun s_33 q_33 => ?_))
    obtain ⟨q_33b, q_33e⟩ := q_33
    subst s_33
    refine j_aload_n (pc := 36) dX1_setSlip_36 rfl ?_
    refine j2_get fa_X1_23_X1 (show h_10 (o) = some (pO 0 [.ref (ad 1 0 0), .ref (ad 2 0 0), .ref (ad 3 0 0), .ref (ad 4 0 0), va_rf (if σ.1 14 = 0 then none else some (ad 12 0 0)), IV (σ.1 0), .ref (ad 5 0 0), .ref (ad 6 0 0)]) from R_6.top) rfl dX1_setSlip_37 ?_
    refine j_iload_n (pc := 40) dX1_setSlip_40 rfl ?_
    refine j2_iald (i := c) (show h_10 (ad 4 0 0) = some (pA 0 4 (σ.2 33)) from R_6.at 4 0 0 ⟨rfl, rfl⟩) (by show 0 ≤ c ∧ c < ((4 : Nat) : Int); omega) dX1_setSlip_41 ?_
    have n_7 : 0 ≤ σ.2 33 (c).toNat ∧ σ.2 33 (c).toNat ≤ 20 := hB.2 33 ((c).toNat)
    refine j_istore_n (pc := 42) dX1_setSlip_42 (by decide) (lo' := [some (.ref o), some (IV c), some (IV v), some (IV (σ.2 33 (c).toNat))]) rfl ?_
    refine j_aload_n (pc := 43) dX1_setSlip_43 rfl ?_
    refine j2_get fa_X1_23_X1 (show h_10 (o) = some (pO 0 [.ref (ad 1 0 0), .ref (ad 2 0 0), .ref (ad 3 0 0), .ref (ad 4 0 0), va_rf (if σ.1 14 = 0 then none else some (ad 12 0 0)), IV (σ.1 0), .ref (ad 5 0 0), .ref (ad 6 0 0)]) from R_6.top) rfl dX1_setSlip_44 ?_
    refine j_iload_n (pc := 47) dX1_setSlip_47 rfl ?_
    refine j_iload_n (pc := 48) dX1_setSlip_48 rfl ?_
    refine j2_iast (i := c) (show h_10 (ad 4 0 0) = some (pA 0 4 (σ.2 33)) from R_6.at 4 0 0 ⟨rfl, rfl⟩) (by show 0 ≤ c ∧ c < ((4 : Nat) : Int); omega) dX1_setSlip_49 (fun h_49 e_49 => ?_)
    have z_8 : h_49 a_1 = some (pA 0 2 (uA (uA (fun _ => 0) 0 c) 1 4)) := by rw [e_49]; exact upH_k z_5 (show h_10 (ad 4 0 0) = some (pA 0 4 (σ.2 33)) from R_6.at 4 0 0 ⟨rfl, rfl⟩) (by intro z; cases z)
    have z_9 : h_49 (ad 4 0 0) = some (pA 0 4 (uA (σ.2 33) (c).toNat v)) := by rw [e_49]; exact upH_self _ _ _
    have R_10 : Rel K h_49 o ad (setA σ 33 (c).toNat v) := R_6.slip e_49
    refine j_iload_n (pc := 50) dX1_setSlip_50 rfl ?_
    refine j_iret (pc := 51) rfl (hQ _ _ ?_) dX1_setSlip_51
    exact ⟨by unfold t2; (repeat' split) <;> omega, rfl, ad, R_10⟩
  · refine j_iload_n (pc := 18) dX1_setSlip_18 rfl ?_
    refine j_iconst (pc := 19) dX1_setSlip_19 rfl ?_
    refine j_bipush (pc := 20) (a := 20) dX1_setSlip_20 (by decide) ?_
    refine j_callS (pc := 22) (c_isIn h_10 v 2 20 (by omega) (by decide) (by decide)) (lw_S q440 q441 q44 q442) md_yX1_isIn (by decide) (by decide) rfl (Nat.le_of_ble_eq_true rfl) dX1_setSlip_22 (qI.k (fun r_22 s_22 q_22 => ?_))
    obtain ⟨e1q_22, e2q_22⟩ := q_22
    subst r_22
    subst s_22
    refine j_ifb_eq (pc := 25) (tgt := 32) dX1_setSlip_25 (by decide) (fun c_25 => ?_) (fun c_25 => ?_)
    · refine j_iconst (pc := 32) dX1_setSlip_32 rfl ?_
      refine j_room (cl' := 0 + 1) (sl' := 0 + 6) (by omega) (by omega) ?_
      refine j_callSx (pc := 33) (c_want h_10 hfl RG.of2 hIAE 0 (Or.inl rfl)) (lw_S q403 q404 q44 q405) md_yX1_want (nT _) (fun E x9 hx9 => by obtain ⟨hn9, rfl, rfl⟩ := hx9; (try have hn8 := bI_0 hn9); exact hX _ _ ⟨xE_of 1 (by unfold t2; (repeat' split) <;> omega) rfl, ad, R_6⟩) (by decide) (by decide) rfl (Nat.le_of_ble_eq_true rfl) dX1_setSlip_33 (qV.k (fun s_33_1 q_33_1 => ?_))
      exact absurd q_33_1.1 (by decide)
    · refine j_iconst (pc := 28) dX1_setSlip_28 rfl ?_
      refine j_goto (pc := 29) (tgt := 33) dX1_setSlip_29 (by decide) ?_
      refine j_room (cl' := 0 + 1) (sl' := 0 + 6) (by omega) (by omega) ?_
      refine j_callSx (pc := 33) (c_want h_10 hfl RG.of2 hIAE 1 (Or.inr rfl)) (lw_S q403 q404 q44 q405) md_yX1_want (nT _) (fun E x9 hx9 => by obtain ⟨hn9, rfl, rfl⟩ := hx9; (try have hn8 := bI_0 hn9); exact hX _ _ ⟨xE_of 1 (by unfold t2; (repeat' split) <;> omega) rfl, ad, R_6⟩) (by decide) (by decide) rfl (Nat.le_of_ble_eq_true rfl) dX1_setSlip_33 (qV.k (fun s_33_1 q_33_1 => ?_))
      obtain ⟨q_33_1b, q_33_1e⟩ := q_33_1
      subst s_33_1
      refine j_aload_n (pc := 36) dX1_setSlip_36 rfl ?_
      refine j2_get fa_X1_23_X1 (show h_10 (o) = some (pO 0 [.ref (ad 1 0 0), .ref (ad 2 0 0), .ref (ad 3 0 0), .ref (ad 4 0 0), va_rf (if σ.1 14 = 0 then none else some (ad 12 0 0)), IV (σ.1 0), .ref (ad 5 0 0), .ref (ad 6 0 0)]) from R_6.top) rfl dX1_setSlip_37 ?_
      refine j_iload_n (pc := 40) dX1_setSlip_40 rfl ?_
      refine j2_iald (i := c) (show h_10 (ad 4 0 0) = some (pA 0 4 (σ.2 33)) from R_6.at 4 0 0 ⟨rfl, rfl⟩) (by show 0 ≤ c ∧ c < ((4 : Nat) : Int); omega) dX1_setSlip_41 ?_
      have n_11 : 0 ≤ σ.2 33 (c).toNat ∧ σ.2 33 (c).toNat ≤ 20 := hB.2 33 ((c).toNat)
      refine j_istore_n (pc := 42) dX1_setSlip_42 (by decide) (lo' := [some (.ref o), some (IV c), some (IV v), some (IV (σ.2 33 (c).toNat))]) rfl ?_
      refine j_aload_n (pc := 43) dX1_setSlip_43 rfl ?_
      refine j2_get fa_X1_23_X1 (show h_10 (o) = some (pO 0 [.ref (ad 1 0 0), .ref (ad 2 0 0), .ref (ad 3 0 0), .ref (ad 4 0 0), va_rf (if σ.1 14 = 0 then none else some (ad 12 0 0)), IV (σ.1 0), .ref (ad 5 0 0), .ref (ad 6 0 0)]) from R_6.top) rfl dX1_setSlip_44 ?_
      refine j_iload_n (pc := 47) dX1_setSlip_47 rfl ?_
      refine j_iload_n (pc := 48) dX1_setSlip_48 rfl ?_
      refine j2_iast (i := c) (show h_10 (ad 4 0 0) = some (pA 0 4 (σ.2 33)) from R_6.at 4 0 0 ⟨rfl, rfl⟩) (by show 0 ≤ c ∧ c < ((4 : Nat) : Int); omega) dX1_setSlip_49 (fun h_49_1 e_49_1 => ?_)
      have z_12 : h_49_1 a_1 = some (pA 0 2 (uA (uA (fun _ => 0) 0 c) 1 4)) := by rw [e_49_1]; exact upH_k z_5 (show h_10 (ad 4 0 0) = some (pA 0 4 (σ.2 33)) from R_6.at 4 0 0 ⟨rfl, rfl⟩) (by intro z; cases z)
      have z_13 : h_49_1 (ad 4 0 0) = some (pA 0 4 (uA (σ.2 33) (c).toNat v)) := by rw [e_49_1]; exact upH_self _ _ _
      have R_14 : Rel K h_49_1 o ad (setA σ 33 (c).toNat v) := R_6.slip e_49_1
      refine j_iload_n (pc := 50) dX1_setSlip_50 rfl ?_
      refine j_iret (pc := 51) rfl (hQ _ _ ?_) dX1_setSlip_51
      exact ⟨by unfold t2; (repeat' split) <;> omega, rfl, ad, R_14⟩

theorem fa_X1_110_X1 : FA RX1 110 0 5 := ⟨RX1, TX1, 8, "BallotFoundry", rfl, in_X1, by decide, q121, Or.inl rfl⟩
set_option maxHeartbeats 4000000 in
theorem c_today {Γ : GG} {A : Nat → Prop} {K : KK} {l : Launch} (h : AL2) (o : Nat) (ad : AD) (σ : MM) (hR : Rel K h o ad σ) (hB : Bd σ) : Ct Γ A (Rep2 Γ A K) l yX1_today (ws_ yX1_today cX1_today 1 (some .int)) 1 0 0 [.ref o] h (qI (fun (r : Int) (h' : AL2) => r = σ.1 0 ∧ h' = h)) X0 := by
  refine Ct.ofJ (own := RX1) (nm := "today") (lo := [some (.ref o)]) pn_X1 rfl rfl (List.forall_mem_cons.mpr ⟨rfl, (fun _ h => nomatch h)⟩) (Nat.le_of_ble_eq_true rfl) rfl ?_
  have hQ : ∀ (r : Int) (h' : AL2), (r = σ.1 0 ∧ h' = h) → (qI (fun (r : Int) (h' : AL2) => r = σ.1 0 ∧ h' = h)) (some (IV r)) h' := fun r h' h => ⟨r, rfl, h⟩
  generalize (qI (fun (r : Int) (h' : AL2) => r = σ.1 0 ∧ h' = h)) = QP at hQ ⊢
  refine j_aload_n (pc := 0) dX1_today_0 rfl ?_
  refine j2_get fa_X1_110_X1 (show h (o) = some (pO 0 [.ref (ad 1 0 0), .ref (ad 2 0 0), .ref (ad 3 0 0), .ref (ad 4 0 0), va_rf (if σ.1 14 = 0 then none else some (ad 12 0 0)), IV (σ.1 0), .ref (ad 5 0 0), .ref (ad 6 0 0)]) from hR.top) rfl dX1_today_1 ?_
  have n_1 : 0 ≤ σ.1 0 ∧ σ.1 0 ≤ 2100 := hB.1 0
  refine j_iret (pc := 4) rfl (hQ _ _ ?_) dX1_today_4
  exact ⟨rfl, rfl⟩

theorem fa_X1_20_X1 : FA RX1 20 0 2 := ⟨RX1, TX1, 8, "BallotFoundry", rfl, in_X1, by decide, q118, Or.inl rfl⟩
theorem md_yJ2_size : MD yJ2_size 0 := by decide +kernel
theorem mdx_yJ2_size : MD ⟨"java/util/List", "size", "()I"⟩ 0 := by decide +kernel
theorem md_yJ2_get : MD yJ2_get 1 := by decide +kernel
theorem mdx_yJ2_get : MD ⟨"java/util/List", "get", "(I)Ljava/lang/Object;"⟩ 1 := by decide +kernel
theorem fa_X1_106_X3 : FA RX1 106 3 1 := ⟨RX3, TX3, 2, "BallotFoundry$Station", rfl, in_X3, by decide, q470, Or.inl rfl⟩
theorem fp_X1_106_X3 : FP RX1 106 3 1 (.int) false := ⟨RX3, TX3, 2, "BallotFoundry$Station", tyX3, rfl, in_X3, by decide, q470, Or.inl rfl, tyX3_ok, nmX3, rfl, rfl, fun h => nomatch h⟩
set_option maxHeartbeats 4000000 in
theorem c_setSeats {Γ : GG} {A : Nat → Prop} {K : KK} {l : Launch} (h : AL2) (hfl : l.stackTraces = false) (hke : KE Γ A K) (hfe : FE Γ) (hIOB : TH5 Γ A "java/lang/IndexOutOfBoundsException") (hIAE : TH5 Γ A "java/lang/IllegalArgumentException") (hISE : TH5 Γ A "java/lang/IllegalStateException") (o : Nat) (ad : AD) (σ : MM) (hR : Rel K h o ad σ) (hB : Bd σ) (s : Int) (hs : RR s) (v : Int) (hv : RR v)  : Ct Γ A (Rep2 Γ A K) l yX1_setSeats (ws_ yX1_setSeats cX1_setSeats 4 (some .int)) 8 3 14 [.ref o, IV s, IV v] h (qI (fun (r : Int) (h' : AL2) => t2 (isS σ s) (0 ≤ v ∧ v ≤ 20) = 0 ∧ r = σ.2 5 s.toNat ∧ ∃ ad', Rel K h' o ad' (setA σ 5 s.toNat v))) (fun (E : String) (h' : AL2) => xE ["java/lang/IndexOutOfBoundsException", "java/lang/IllegalArgumentException"] (t2 (isS σ s) (0 ≤ v ∧ v ≤ 20)) E ∧ ∃ ad', Rel K h' o ad' σ) := by
  refine Ct.ofJ (own := RX1) (nm := "setSeats") (lo := [some (.ref o), some (IV s), some (IV v), none]) pn_X1 rfl rfl (List.forall_mem_cons.mpr ⟨rfl, (List.forall_mem_cons.mpr ⟨rfl, (List.forall_mem_cons.mpr ⟨rfl, (fun _ h => nomatch h)⟩)⟩)⟩) (Nat.le_of_ble_eq_true rfl) rfl ?_
  have hQ : ∀ (r : Int) (h' : AL2), (t2 (isS σ s) (0 ≤ v ∧ v ≤ 20) = 0 ∧ r = σ.2 5 s.toNat ∧ ∃ ad', Rel K h' o ad' (setA σ 5 s.toNat v)) → (qI (fun (r : Int) (h' : AL2) => t2 (isS σ s) (0 ≤ v ∧ v ≤ 20) = 0 ∧ r = σ.2 5 s.toNat ∧ ∃ ad', Rel K h' o ad' (setA σ 5 s.toNat v))) (some (IV r)) h' := fun r h' h => ⟨r, rfl, h⟩
  generalize (qI (fun (r : Int) (h' : AL2) => t2 (isS σ s) (0 ≤ v ∧ v ≤ 20) = 0 ∧ r = σ.2 5 s.toNat ∧ ∃ ad', Rel K h' o ad' (setA σ 5 s.toNat v))) = QP at hQ ⊢
  have hX : ∀ (E : String) (h' : AL2), (xE ["java/lang/IndexOutOfBoundsException", "java/lang/IllegalArgumentException"] (t2 (isS σ s) (0 ≤ v ∧ v ≤ 20)) E ∧ ∃ ad', Rel K h' o ad' σ) → (fun (E : String) (h' : AL2) => xE ["java/lang/IndexOutOfBoundsException", "java/lang/IllegalArgumentException"] (t2 (isS σ s) (0 ≤ v ∧ v ≤ 20)) E ∧ ∃ ad', Rel K h' o ad' σ) E h' := fun E h' h => h
  generalize (fun (E : String) (h' : AL2) => xE ["java/lang/IndexOutOfBoundsException", "java/lang/IllegalArgumentException"] (t2 (isS σ s) (0 ≤ v ∧ v ≤ 20)) E ∧ ∃ ad', Rel K h' o ad' σ) = XP at hX ⊢
  have n6 : 0 ≤ σ.1 6 ∧ σ.1 6 ≤ 5 := hB.1 6
  refine j_iconst (pc := 0) dX1_setSeats_0 rfl ?_
  refine j_room (cl' := 2 + 1) (sl' := 12 + 2) (by omega) (by omega) ?_
  refine j2_newa (i := 2) (N := 2) (atype := .int) hke.1 (Or.inl ⟨rfl, rfl⟩) q141 (by omega) (by omega) (by omega) dX1_setSeats_1 (fun a_1 h_1 n_1 e_1 => ?_)
  have z_1 : h_1 a_1 = some (pA 0 2 (fun _ => 0)) := by rw [e_1]; exact upH_self _ _ _
  have fo_a_1 : ∀ k i j, live σ k i j → ad k i j ≠ a_1 := fun k i j hl => hR.fresh n_1 hl
  have R_2 : Rel K h_1 o ad σ := hR.other (fun b c hb => by rw [e_1]; exact upH_old hb n_1)
  refine j_dup (pc := 3) dX1_setSeats_3 rfl ?_
  refine j_iconst (pc := 4) dX1_setSeats_4 rfl ?_
  refine j_iload_n (pc := 5) dX1_setSeats_5 rfl ?_
  refine j2_iast (i := 0) z_1 (by show 0 ≤ 0 ∧ 0 < ((2 : Nat) : Int); omega) dX1_setSeats_6 (fun h_6 e_6 => ?_)
  have z_3 : h_6 a_1 = some (pA 0 2 (uA (fun _ => 0) 0 s)) := by rw [e_6]; exact upH_self _ _ _
  have R_4 : Rel K h_6 o ad σ := R_2.off e_6 fo_a_1
  refine j_dup (pc := 7) dX1_setSeats_7 rfl ?_
  refine j_iconst (pc := 8) dX1_setSeats_8 rfl ?_
  refine j_aload_n (pc := 9) dX1_setSeats_9 rfl ?_
  refine j2_get fa_X1_20_X1 (show h_6 (o) = some (pO 0 [.ref (ad 1 0 0), .ref (ad 2 0 0), .ref (ad 3 0 0), .ref (ad 4 0 0), va_rf (if σ.1 14 = 0 then none else some (ad 12 0 0)), IV (σ.1 0), .ref (ad 5 0 0), .ref (ad 6 0 0)]) from R_4.top) rfl dX1_setSeats_10 ?_
  refine j_callF (pc := 13) (xm := ⟨"java/util/List", "size", "()I"⟩) (l2_size (show h_6 (ad 3 0 0) = some (pL (rg (σ.1 6) (fun p => ad 8 p 0))) from R_4.at 3 0 0 ⟨rfl, rfl⟩)) (lw_F q155 q159 q161 q47 q163) hfe.1 (ci := 2) rfl rfl mdx_yJ2_size (RC.ofL (show h_6 (ad 3 0 0) = some (pL (rg (σ.1 6) (fun p => ad 8 p 0))) from R_4.at 3 0 0 ⟨rfl, rfl⟩)) (by decide) (by decide) rfl (Nat.le_of_ble_eq_true rfl) dX1_setSeats_13 (qI.k (fun r_13 s_13 q_13 => ?_))
  obtain ⟨e1q_13, e2q_13⟩ := q_13
  subst s_13
  rw [rg_len (by omega)] at e1q_13
  subst r_13
  refine j2_iast (i := 1) z_3 (by show 0 ≤ 1 ∧ 1 < ((2 : Nat) : Int); omega) dX1_setSeats_18 (fun h_18 e_18 => ?_)
  have z_5 : h_18 a_1 = some (pA 0 2 (uA (uA (fun _ => 0) 0 s) 1 (σ.1 6))) := by rw [e_18]; exact upH_self _ _ _
  have R_6 : Rel K h_18 o ad σ := R_4.off e_18 fo_a_1
  refine j_room (cl' := 1 + 1) (sl' := 6 + 6) (by omega) (by omega) ?_
  refine j_callSx (pc := 19) (c_exist h_18 hfl RG.of2 hIOB a_1 1 (uA (uA (fun _ => 0) 0 s) 1 (σ.1 6)) (rrA (rrA rr0 (by omega)) (by omega)) (by decide) z_5) (lw_S q370 q371 q44 q372) md_yX1_exist (nT _) (fun E x9 hx9 => by obtain ⟨rfl, hn9, rfl⟩ := hx9; rw [ex1] at hn9; exact hX _ _ ⟨xE_of 0 (by unfold t2; (repeat' split) <;> omega) rfl, ad, R_6⟩) (by decide) (by decide) rfl (Nat.le_of_ble_eq_true rfl) dX1_setSeats_19 (qV.k (fun s_19 q_19 => ?_))
  obtain ⟨q_19a, q_19e⟩ := q_19
  subst s_19
  have q_19b := ex1.mp q_19a
  refine j_iload_n (pc := 22) dX1_setSeats_22 rfl ?_
  refine j_iconst (pc := 23) dX1_setSeats_23 rfl ?_
  refine j_bipush (pc := 24) (a := 20) dX1_setSeats_24 (by decide) ?_
  refine j_callS (pc := 26) (c_isIn h_18 v 0 20 (by omega) (by decide) (by decide)) (lw_S q440 q441 q44 q442) md_yX1_isIn (by decide) (by decide) rfl (Nat.le_of_ble_eq_true rfl) dX1_setSeats_26 (qI.k (fun r_26 s_26 q_26 => ?_))
  obtain ⟨e1q_26, e2q_26⟩ := q_26
  subst r_26
  subst s_26
  refine j_room (cl' := 0 + 1) (sl' := 0 + 6) (by omega) (by omega) ?_
  refine j_callSx (pc := 29) (c_want h_18 hfl RG.of2 hIAE (bI (0 ≤ v ∧ v ≤ 20)) (bI_01 _)) (lw_S q403 q404 q44 q405) md_yX1_want (nT _) (fun E x9 hx9 => by obtain ⟨hn9, rfl, rfl⟩ := hx9; (try have hn8 := bI_0 hn9); exact hX _ _ ⟨xE_of 1 (by unfold t2; (repeat' split) <;> omega) rfl, ad, R_6⟩) (by decide) (by decide) rfl (Nat.le_of_ble_eq_true rfl) dX1_setSeats_29 (qV.k (fun s_29 q_29 => ?_))
  obtain ⟨q_29b, q_29e⟩ := q_29
  subst s_29
  have q_29c := bI_1 q_29b
  refine j_aload_n (pc := 32) dX1_setSeats_32 rfl ?_
  refine j2_get fa_X1_20_X1 (show h_18 (o) = some (pO 0 [.ref (ad 1 0 0), .ref (ad 2 0 0), .ref (ad 3 0 0), .ref (ad 4 0 0), va_rf (if σ.1 14 = 0 then none else some (ad 12 0 0)), IV (σ.1 0), .ref (ad 5 0 0), .ref (ad 6 0 0)]) from R_6.top) rfl dX1_setSeats_33 ?_
  refine j_iload_n (pc := 36) dX1_setSeats_36 rfl ?_
  refine j_callF (pc := 37) (xm := ⟨"java/util/List", "get", "(I)Ljava/lang/Object;"⟩) (l2_get (show h_18 (ad 3 0 0) = some (pL (rg (σ.1 6) (fun p => ad 8 p 0))) from R_6.at 3 0 0 ⟨rfl, rfl⟩) (i := s) (v := ad 8 (s).toNat 0) (by omega) (rg_at (by omega) (by omega))) (lw_F q551 q185 q187 q47 q189) hfe.2.2.1 (ci := 2) rfl rfl mdx_yJ2_get (RC.ofL (show h_18 (ad 3 0 0) = some (pL (rg (σ.1 6) (fun p => ad 8 p 0))) from R_6.at 3 0 0 ⟨rfl, rfl⟩)) (by decide) (by decide) rfl (Nat.le_of_ble_eq_true rfl) dX1_setSeats_37 (qR.k (fun r_37 s_37 q_37 => ?_))
  obtain ⟨e1q_37, e2q_37⟩ := q_37
  subst r_37
  subst s_37
  refine j2_castS (C := RX3) rfl q461 (show h_18 (ad 8 (s).toNat 0) = some (pO 3 [IV (σ.2 4 (s).toNat), IV (σ.2 5 (s).toNat)]) from R_6.at 8 (s).toNat 0 ⟨(by omega), rfl⟩) dX1_setSeats_42 ?_
  refine j2_get fa_X1_106_X3 (show h_18 (ad 8 (s).toNat 0) = some (pO 3 [IV (σ.2 4 (s).toNat), IV (σ.2 5 (s).toNat)]) from R_6.at 8 (s).toNat 0 ⟨(by omega), rfl⟩) rfl dX1_setSeats_45 ?_
  have n_7 : 0 ≤ σ.2 5 (s).toNat ∧ σ.2 5 (s).toNat ≤ 20 := hB.2 5 ((s).toNat)
  refine j_istore_n (pc := 48) dX1_setSeats_48 (by decide) (lo' := [some (.ref o), some (IV s), some (IV v), some (IV (σ.2 5 (s).toNat))]) rfl ?_
  refine j_aload_n (pc := 49) dX1_setSeats_49 rfl ?_
  refine j2_get fa_X1_20_X1 (show h_18 (o) = some (pO 0 [.ref (ad 1 0 0), .ref (ad 2 0 0), .ref (ad 3 0 0), .ref (ad 4 0 0), va_rf (if σ.1 14 = 0 then none else some (ad 12 0 0)), IV (σ.1 0), .ref (ad 5 0 0), .ref (ad 6 0 0)]) from R_6.top) rfl dX1_setSeats_50 ?_
  refine j_iload_n (pc := 53) dX1_setSeats_53 rfl ?_
  refine j_callF (pc := 54) (xm := ⟨"java/util/List", "get", "(I)Ljava/lang/Object;"⟩) (l2_get (show h_18 (ad 3 0 0) = some (pL (rg (σ.1 6) (fun p => ad 8 p 0))) from R_6.at 3 0 0 ⟨rfl, rfl⟩) (i := s) (v := ad 8 (s).toNat 0) (by omega) (rg_at (by omega) (by omega))) (lw_F q551 q185 q187 q47 q189) hfe.2.2.1 (ci := 2) rfl rfl mdx_yJ2_get (RC.ofL (show h_18 (ad 3 0 0) = some (pL (rg (σ.1 6) (fun p => ad 8 p 0))) from R_6.at 3 0 0 ⟨rfl, rfl⟩)) (by decide) (by decide) rfl (Nat.le_of_ble_eq_true rfl) dX1_setSeats_54 (qR.k (fun r_54 s_54 q_54 => ?_))
  obtain ⟨e1q_54, e2q_54⟩ := q_54
  subst r_54
  subst s_54
  refine j2_castS (C := RX3) rfl q461 (show h_18 (ad 8 (s).toNat 0) = some (pO 3 [IV (σ.2 4 (s).toNat), IV (σ.2 5 (s).toNat)]) from R_6.at 8 (s).toNat 0 ⟨(by omega), rfl⟩) dX1_setSeats_59 ?_
  refine j_iload_n (pc := 62) dX1_setSeats_62 rfl ?_
  refine j2_put fp_X1_106_X3 (show h_18 (ad 8 (s).toNat 0) = some (pO 3 [IV (σ.2 4 (s).toNat), IV (σ.2 5 (s).toNat)]) from R_6.at 8 (s).toNat 0 ⟨(by omega), rfl⟩) (by decide) (Nat.le_of_ble_eq_true rfl) rfl rfl dX1_setSeats_63 (fun h_63 e_63 => ?_)
  have z_8 : h_63 a_1 = some (pA 0 2 (uA (uA (fun _ => 0) 0 s) 1 (σ.1 6))) := by rw [e_63]; exact upH_k z_5 (show h_18 (ad 8 (s).toNat 0) = some (pO 3 [IV (σ.2 4 (s).toNat), IV (σ.2 5 (s).toNat)]) from R_6.at 8 (s).toNat 0 ⟨(by omega), rfl⟩) (by intro z; cases z)
  have z_9 : h_63 (ad 8 (s).toNat 0) = some (pO 3 [IV (σ.2 4 (s).toNat), IV v]) := by rw [e_63]; exact upH_self _ _ _
  have R_10 : Rel K h_63 o ad (setA σ 5 (s).toNat v) := R_6.seats (by omega) e_63
  refine j_iload_n (pc := 66) dX1_setSeats_66 rfl ?_
  refine j_iret (pc := 67) rfl (hQ _ _ ?_) dX1_setSeats_67
  exact ⟨by unfold t2; (repeat' split) <;> omega, rfl, ad, R_10⟩

theorem pn_X4 : plainName RX4 = true := by decide
theorem fa_X4_12_X4 : FA RX4 12 4 2 := ⟨RX4, TX4, 4, "BallotFoundry$Person", rfl, in_X4, by decide, q575, Or.inl rfl⟩
theorem fa_X4_48_X5 : FA RX4 48 5 0 := ⟨RX5, TX5, 2, "BallotFoundry$Dwelling", rfl, in_X5, by decide, q597, Or.inl rfl⟩
theorem fa_X4_51_X5 : FA RX4 51 5 1 := ⟨RX5, TX5, 2, "BallotFoundry$Dwelling", rfl, in_X5, by decide, q599, Or.inl rfl⟩
set_option maxHeartbeats 4000000 in
theorem c_pDwells {Γ : GG} {A : Nat → Prop} {K : KK} {l : Launch} (h : AL2) (hfe : FE Γ) (o : Nat) (ad : AD) (σ : MM) (hR : Rel K h o ad σ) (hB : Bd σ) (p : Nat) (hp : (p : Int) < σ.1 9) (t : Int) (ht : RR t) : Ct Γ A (Rep2 Γ A K) l yX4_dwells_2 (ws_ yX4_dwells_2 cX4_dwells_2 4 (some .int)) 4 0 0 [.ref (ad 7 p 0), IV t] h (qI (fun (r : Int) (h' : AL2) => r = sDwelt σ p t (σ.1 13).toNat ∧ h' = h)) X0 := by
  refine Ct.ofJ (own := RX4) (nm := "dwells") (lo := [some (.ref (ad 7 p 0)), some (IV t), none, none]) pn_X4 rfl rfl (List.forall_mem_cons.mpr ⟨rfl, (List.forall_mem_cons.mpr ⟨rfl, (fun _ h => nomatch h)⟩)⟩) (Nat.le_of_ble_eq_true rfl) rfl ?_
  have hQ : ∀ (r : Int) (h' : AL2), (r = sDwelt σ p t (σ.1 13).toNat ∧ h' = h) → (qI (fun (r : Int) (h' : AL2) => r = sDwelt σ p t (σ.1 13).toNat ∧ h' = h)) (some (IV r)) h' := fun r h' h => ⟨r, rfl, h⟩
  generalize (qI (fun (r : Int) (h' : AL2) => r = sDwelt σ p t (σ.1 13).toNat ∧ h' = h)) = QP at hQ ⊢
  have hml := mvs_len hB p
  refine j_iconst (pc := 0) dX4_dwells_2_0 rfl ?_
  refine j_istore_n (pc := 1) dX4_dwells_2_1 (by decide) (lo' := [some (.ref (ad 7 p 0)), some (IV t), some (IV (-1)), none]) rfl ?_
  refine j_iconst (pc := 2) dX4_dwells_2_2 rfl ?_
  refine j_istore_n (pc := 3) dX4_dwells_2_3 (by decide) (lo' := [some (.ref (ad 7 p 0)), some (IV t), some (IV (-1)), some (IV 0)]) rfl ?_
  have hl_4 : ∀ (fu : Nat) (k : Nat) (z : Int), (mvs σ p).length - k < fu → k ≤ (mvs σ p).length → z = dwL σ t ((mvs σ p).take k) → J Γ A (Rep2 Γ A K) l RX4 "dwells" cX4_dwells_2 4 (some .int) [] 4 0 0 QP X0 0 0 h 4 [some (.ref (ad 7 p 0)), some (IV t), some (IV z), some (IV (k : Int))] [] := by
    intro fu
    induction fu with
    | zero => intro k z hm; exact absurd hm (Nat.not_lt_zero _)
    | succ fu ih_4 =>
      intro k z hm hk hz
      refine j_iload_n (pc := 4) dX4_dwells_2_4 rfl ?_
      refine j_aload_n (pc := 5) dX4_dwells_2_5 rfl ?_
      refine j2_get fa_X4_12_X4 (show h (ad 7 p 0) = some (pO 4 [IV ((p : Nat) : Int), IV (σ.2 7 p), .ref (ad 9 p 0), IV (σ.2 8 p)]) from hR.at 7 p 0 ⟨hp, rfl⟩) rfl dX4_dwells_2_6 ?_
      refine j_callF (pc := 9) (xm := ⟨"java/util/List", "size", "()I"⟩) (l2_size (show h (ad 9 p 0) = some (pL ((mvs σ p).map (fun m => ad 10 m 0))) from hR.at 9 p 0 ⟨hp, rfl⟩)) (lw_F q623 q159 q161 q47 q163) hfe.1 (ci := 2) rfl rfl mdx_yJ2_size (RC.ofL (show h (ad 9 p 0) = some (pL ((mvs σ p).map (fun m => ad 10 m 0))) from hR.at 9 p 0 ⟨hp, rfl⟩)) (by decide) (by decide) rfl (Nat.le_of_ble_eq_true rfl) dX4_dwells_2_9 (qI.k (fun r_9 s_9 q_9 => ?_))
      obtain ⟨e1q_9, e2q_9⟩ := q_9
      subst s_9
      rw [List.length_map] at e1q_9
      subst r_9
      refine j_icmp_ge (pc := 14) (tgt := 64) dX4_dwells_2_14 (by decide) (by omega) (by omega) (fun c_14 => ?_) (fun c_14 => ?_)
      · refine j_iload_n (pc := 64) dX4_dwells_2_64 rfl ?_
        refine j_iret (pc := 65) rfl (hQ _ _ ?_) dX4_dwells_2_65
        exact ⟨by rw [hz, List.take_of_length_le (by omega)]; exact dwL_mvs σ p t _, rfl⟩
      · obtain ⟨m9, hm9⟩ : ∃ m9, (mvs σ p)[k]? = some m9 := ⟨_, List.getElem?_eq_getElem (by omega)⟩
        have hl9 := mvs_lt (List.mem_of_getElem? hm9)
        refine j_aload_n (pc := 17) dX4_dwells_2_17 rfl ?_
        refine j2_get fa_X4_12_X4 (show h (ad 7 p 0) = some (pO 4 [IV ((p : Nat) : Int), IV (σ.2 7 p), .ref (ad 9 p 0), IV (σ.2 8 p)]) from hR.at 7 p 0 ⟨hp, rfl⟩) rfl dX4_dwells_2_18 ?_
        refine j_iload_n (pc := 21) dX4_dwells_2_21 rfl ?_
        refine j_callF (pc := 22) (xm := ⟨"java/util/List", "get", "(I)Ljava/lang/Object;"⟩) (l2_get (show h (ad 9 p 0) = some (pL ((mvs σ p).map (fun m => ad 10 m 0))) from hR.at 9 p 0 ⟨hp, rfl⟩) (i := (k : Int)) (v := ad 10 m9 0) (by omega) (by rw [List.getElem?_map, show ((k : Int)).toNat = k from rfl, hm9]; rfl)) (lw_F q625 q185 q187 q47 q189) hfe.2.2.1 (ci := 2) rfl rfl mdx_yJ2_get (RC.ofL (show h (ad 9 p 0) = some (pL ((mvs σ p).map (fun m => ad 10 m 0))) from hR.at 9 p 0 ⟨hp, rfl⟩)) (by decide) (by decide) rfl (Nat.le_of_ble_eq_true rfl) dX4_dwells_2_22 (qR.k (fun r_22 s_22 q_22 => ?_))
        obtain ⟨e1q_22, e2q_22⟩ := q_22
        subst r_22
        subst s_22
        refine j2_castS (C := RX5) rfl q590 (show h (ad 10 m9 0) = some (pO 5 [IV (σ.2 11 m9), IV (σ.2 12 m9)]) from hR.at 10 m9 0 ⟨hl9, rfl⟩) dX4_dwells_2_27 ?_
        refine j2_get fa_X4_48_X5 (show h (ad 10 m9 0) = some (pO 5 [IV (σ.2 11 m9), IV (σ.2 12 m9)]) from hR.at 10 m9 0 ⟨hl9, rfl⟩) rfl dX4_dwells_2_30 ?_
        have n_1 : 0 ≤ σ.2 11 m9 ∧ σ.2 11 m9 ≤ 2100 := hB.2 11 m9
        refine j_iload_n (pc := 33) dX4_dwells_2_33 rfl ?_
        refine j_icmp_gt (pc := 34) (tgt := 56) dX4_dwells_2_34 (by decide) (by omega) (by omega) (fun c_34 => ?_) (fun c_34 => ?_)
        · refine j_iload_n (pc := 56) dX4_dwells_2_56 rfl ?_
          refine j_istore_n (pc := 57) dX4_dwells_2_57 (by decide) (lo' := [some (.ref (ad 7 p 0)), some (IV t), some (IV z), some (IV (k : Int))]) rfl ?_
          refine j_iinc (pc := 58) dX4_dwells_2_58 rfl (by decide) (lo' := [some (.ref (ad 7 p 0)), some (IV t), some (IV z), some (IV ((k : Int) + 1))]) rfl ?_
          refine j_goto (pc := 61) (tgt := 4) dX4_dwells_2_61 (by decide) ?_
          exact ih_4 (k + 1) z (by omega) (by omega) (by rw [dwL_take hm9]; split <;> first | rfl | omega)
        · refine j_aload_n (pc := 37) dX4_dwells_2_37 rfl ?_
          refine j2_get fa_X4_12_X4 (show h (ad 7 p 0) = some (pO 4 [IV ((p : Nat) : Int), IV (σ.2 7 p), .ref (ad 9 p 0), IV (σ.2 8 p)]) from hR.at 7 p 0 ⟨hp, rfl⟩) rfl dX4_dwells_2_38 ?_
          refine j_iload_n (pc := 41) dX4_dwells_2_41 rfl ?_
          refine j_callF (pc := 42) (xm := ⟨"java/util/List", "get", "(I)Ljava/lang/Object;"⟩) (l2_get (show h (ad 9 p 0) = some (pL ((mvs σ p).map (fun m => ad 10 m 0))) from hR.at 9 p 0 ⟨hp, rfl⟩) (i := (k : Int)) (v := ad 10 m9 0) (by omega) (by rw [List.getElem?_map, show ((k : Int)).toNat = k from rfl, hm9]; rfl)) (lw_F q625 q185 q187 q47 q189) hfe.2.2.1 (ci := 2) rfl rfl mdx_yJ2_get (RC.ofL (show h (ad 9 p 0) = some (pL ((mvs σ p).map (fun m => ad 10 m 0))) from hR.at 9 p 0 ⟨hp, rfl⟩)) (by decide) (by decide) rfl (Nat.le_of_ble_eq_true rfl) dX4_dwells_2_42 (qR.k (fun r_42 s_42 q_42 => ?_))
          obtain ⟨e1q_42, e2q_42⟩ := q_42
          subst r_42
          subst s_42
          refine j2_castS (C := RX5) rfl q590 (show h (ad 10 m9 0) = some (pO 5 [IV (σ.2 11 m9), IV (σ.2 12 m9)]) from hR.at 10 m9 0 ⟨hl9, rfl⟩) dX4_dwells_2_47 ?_
          refine j2_get fa_X4_51_X5 (show h (ad 10 m9 0) = some (pO 5 [IV (σ.2 11 m9), IV (σ.2 12 m9)]) from hR.at 10 m9 0 ⟨hl9, rfl⟩) rfl dX4_dwells_2_50 ?_
          have n_2 : 0 ≤ σ.2 12 m9 ∧ σ.2 12 m9 ≤ 35 := hB.2 12 m9
          refine j_goto (pc := 53) (tgt := 57) dX4_dwells_2_53 (by decide) ?_
          refine j_istore_n (pc := 57) dX4_dwells_2_57 (by decide) (lo' := [some (.ref (ad 7 p 0)), some (IV t), some (IV (σ.2 12 m9)), some (IV (k : Int))]) rfl ?_
          refine j_iinc (pc := 58) dX4_dwells_2_58 rfl (by decide) (lo' := [some (.ref (ad 7 p 0)), some (IV t), some (IV (σ.2 12 m9)), some (IV ((k : Int) + 1))]) rfl ?_
          refine j_goto (pc := 61) (tgt := 4) dX4_dwells_2_61 (by decide) ?_
          exact ih_4 (k + 1) (σ.2 12 m9) (by omega) (by omega) (by rw [dwL_take hm9]; split <;> first | rfl | omega)
  exact hl_4 _ 0 (-1) (Nat.lt_succ_self _) (by omega) rfl

theorem fa_X1_16_X1 : FA RX1 16 0 1 := ⟨RX1, TX1, 8, "BallotFoundry", rfl, in_X1, by decide, q117, Or.inl rfl⟩
set_option maxHeartbeats 4000000 in
theorem c_find {Γ : GG} {A : Nat → Prop} {K : KK} {l : Launch} (h : AL2) (hfl : l.stackTraces = false) (hke : KE Γ A K) (hfe : FE Γ) (hIOB : TH5 Γ A "java/lang/IndexOutOfBoundsException") (o : Nat) (ad : AD) (σ : MM) (hR : Rel K h o ad σ) (hB : Bd σ) (p : Int) (hp : RR p) : Ct Γ A (Rep2 Γ A K) l yX1_find (ws_ yX1_find cX1_find 2 (some (.object "BallotFoundry$Person"))) 8 3 14 [.ref o, IV p] h (qR (fun (r : Nat) (h' : AL2) => isP σ p ∧ r = ad 7 p.toNat 0 ∧ Rel K h' o ad σ)) (fun (E : String) (h' : AL2) => E = "java/lang/IndexOutOfBoundsException" ∧ ¬ isP σ p ∧ Rel K h' o ad σ) := by
  refine Ct.ofJ (own := RX1) (nm := "find") (lo := [some (.ref o), some (IV p)]) pn_X1 rfl rfl (List.forall_mem_cons.mpr ⟨rfl, (List.forall_mem_cons.mpr ⟨rfl, (fun _ h => nomatch h)⟩)⟩) (Nat.le_of_ble_eq_true rfl) rfl ?_
  have hQ : ∀ (r : Nat) (h' : AL2), (isP σ p ∧ r = ad 7 p.toNat 0 ∧ Rel K h' o ad σ) → (qR (fun (r : Nat) (h' : AL2) => isP σ p ∧ r = ad 7 p.toNat 0 ∧ Rel K h' o ad σ)) (some (.ref r)) h' := fun r h' h => ⟨r, rfl, h⟩
  generalize (qR (fun (r : Nat) (h' : AL2) => isP σ p ∧ r = ad 7 p.toNat 0 ∧ Rel K h' o ad σ)) = QP at hQ ⊢
  have hX : ∀ (E : String) (h' : AL2), (E = "java/lang/IndexOutOfBoundsException" ∧ ¬ isP σ p ∧ Rel K h' o ad σ) → (fun (E : String) (h' : AL2) => E = "java/lang/IndexOutOfBoundsException" ∧ ¬ isP σ p ∧ Rel K h' o ad σ) E h' := fun E h' h => h
  generalize (fun (E : String) (h' : AL2) => E = "java/lang/IndexOutOfBoundsException" ∧ ¬ isP σ p ∧ Rel K h' o ad σ) = XP at hX ⊢
  have n9 : 0 ≤ σ.1 9 ∧ σ.1 9 ≤ 20 := hB.1 9
  refine j_iconst (pc := 0) dX1_find_0 rfl ?_
  refine j_room (cl' := 2 + 1) (sl' := 12 + 2) (by omega) (by omega) ?_
  refine j2_newa (i := 2) (N := 2) (atype := .int) hke.1 (Or.inl ⟨rfl, rfl⟩) q141 (by omega) (by omega) (by omega) dX1_find_1 (fun a_1 h_1 n_1 e_1 => ?_)
  have z_1 : h_1 a_1 = some (pA 0 2 (fun _ => 0)) := by rw [e_1]; exact upH_self _ _ _
  have fo_a_1 : ∀ k i j, live σ k i j → ad k i j ≠ a_1 := fun k i j hl => hR.fresh n_1 hl
  have R_2 : Rel K h_1 o ad σ := hR.other (fun b c hb => by rw [e_1]; exact upH_old hb n_1)
  refine j_dup (pc := 3) dX1_find_3 rfl ?_
  refine j_iconst (pc := 4) dX1_find_4 rfl ?_
  refine j_iload_n (pc := 5) dX1_find_5 rfl ?_
  refine j2_iast (i := 0) z_1 (by show 0 ≤ 0 ∧ 0 < ((2 : Nat) : Int); omega) dX1_find_6 (fun h_6 e_6 => ?_)
  have z_3 : h_6 a_1 = some (pA 0 2 (uA (fun _ => 0) 0 p)) := by rw [e_6]; exact upH_self _ _ _
  have R_4 : Rel K h_6 o ad σ := R_2.off e_6 fo_a_1
  refine j_dup (pc := 7) dX1_find_7 rfl ?_
  refine j_iconst (pc := 8) dX1_find_8 rfl ?_
  refine j_aload_n (pc := 9) dX1_find_9 rfl ?_
  refine j2_get fa_X1_16_X1 (show h_6 (o) = some (pO 0 [.ref (ad 1 0 0), .ref (ad 2 0 0), .ref (ad 3 0 0), .ref (ad 4 0 0), va_rf (if σ.1 14 = 0 then none else some (ad 12 0 0)), IV (σ.1 0), .ref (ad 5 0 0), .ref (ad 6 0 0)]) from R_4.top) rfl dX1_find_10 ?_
  refine j_callF (pc := 13) (xm := ⟨"java/util/List", "size", "()I"⟩) (l2_size (show h_6 (ad 2 0 0) = some (pL (rg (σ.1 9) (fun p => ad 7 p 0))) from R_4.at 2 0 0 ⟨rfl, rfl⟩)) (lw_F q155 q159 q161 q47 q163) hfe.1 (ci := 2) rfl rfl mdx_yJ2_size (RC.ofL (show h_6 (ad 2 0 0) = some (pL (rg (σ.1 9) (fun p => ad 7 p 0))) from R_4.at 2 0 0 ⟨rfl, rfl⟩)) (by decide) (by decide) rfl (Nat.le_of_ble_eq_true rfl) dX1_find_13 (qI.k (fun r_13 s_13 q_13 => ?_))
  obtain ⟨e1q_13, e2q_13⟩ := q_13
  subst s_13
  rw [rg_len (by omega)] at e1q_13
  subst r_13
  refine j2_iast (i := 1) z_3 (by show 0 ≤ 1 ∧ 1 < ((2 : Nat) : Int); omega) dX1_find_18 (fun h_18 e_18 => ?_)
  have z_5 : h_18 a_1 = some (pA 0 2 (uA (uA (fun _ => 0) 0 p) 1 (σ.1 9))) := by rw [e_18]; exact upH_self _ _ _
  have R_6 : Rel K h_18 o ad σ := R_4.off e_18 fo_a_1
  refine j_room (cl' := 1 + 1) (sl' := 6 + 6) (by omega) (by omega) ?_
  refine j_callSx (pc := 19) (c_exist h_18 hfl RG.of2 hIOB a_1 1 (uA (uA (fun _ => 0) 0 p) 1 (σ.1 9)) (rrA (rrA rr0 (by omega)) (by omega)) (by decide) z_5) (lw_S q370 q371 q44 q372) md_yX1_exist (nT _) (fun E x9 hx9 => by obtain ⟨rfl, hn9, rfl⟩ := hx9; rw [ex1] at hn9; exact hX _ _ ⟨rfl, by omega, R_6⟩) (by decide) (by decide) rfl (Nat.le_of_ble_eq_true rfl) dX1_find_19 (qV.k (fun s_19 q_19 => ?_))
  obtain ⟨q_19a, q_19e⟩ := q_19
  subst s_19
  have q_19b := ex1.mp q_19a
  refine j_aload_n (pc := 22) dX1_find_22 rfl ?_
  refine j2_get fa_X1_16_X1 (show h_18 (o) = some (pO 0 [.ref (ad 1 0 0), .ref (ad 2 0 0), .ref (ad 3 0 0), .ref (ad 4 0 0), va_rf (if σ.1 14 = 0 then none else some (ad 12 0 0)), IV (σ.1 0), .ref (ad 5 0 0), .ref (ad 6 0 0)]) from R_6.top) rfl dX1_find_23 ?_
  refine j_iload_n (pc := 26) dX1_find_26 rfl ?_
  refine j_callF (pc := 27) (xm := ⟨"java/util/List", "get", "(I)Ljava/lang/Object;"⟩) (l2_get (show h_18 (ad 2 0 0) = some (pL (rg (σ.1 9) (fun p => ad 7 p 0))) from R_6.at 2 0 0 ⟨rfl, rfl⟩) (i := p) (v := ad 7 (p).toNat 0) (by omega) (rg_at (by omega) (by omega))) (lw_F q551 q185 q187 q47 q189) hfe.2.2.1 (ci := 2) rfl rfl mdx_yJ2_get (RC.ofL (show h_18 (ad 2 0 0) = some (pL (rg (σ.1 9) (fun p => ad 7 p 0))) from R_6.at 2 0 0 ⟨rfl, rfl⟩)) (by decide) (by decide) rfl (Nat.le_of_ble_eq_true rfl) dX1_find_27 (qR.k (fun r_27 s_27 q_27 => ?_))
  obtain ⟨e1q_27, e2q_27⟩ := q_27
  subst r_27
  subst s_27
  refine j2_castS (C := RX4) rfl q559 (show h_18 (ad 7 (p).toNat 0) = some (pO 4 [IV (((p).toNat : Nat) : Int), IV (σ.2 7 (p).toNat), .ref (ad 9 (p).toNat 0), IV (σ.2 8 (p).toNat)]) from R_6.at 7 (p).toNat 0 ⟨(by omega), rfl⟩) dX1_find_32 ?_
  refine j_aret (pc := 35) rfl (by first | exact Or.inl ⟨_, rfl⟩ | exact Or.inr ⟨_, rfl⟩) (hQ _ _ ?_) dX1_find_35
  exact ⟨by omega, rfl, R_6⟩

theorem md_yX1_find : MD yX1_find 1 := by decide +kernel
theorem md_yX4_dwells_2 : MD yX4_dwells_2 1 := by decide +kernel
set_option maxHeartbeats 4000000 in
theorem c_dwells {Γ : GG} {A : Nat → Prop} {K : KK} {l : Launch} (h : AL2) (hfl : l.stackTraces = false) (hke : KE Γ A K) (hfe : FE Γ) (hIOB : TH5 Γ A "java/lang/IndexOutOfBoundsException") (hIAE : TH5 Γ A "java/lang/IllegalArgumentException") (hISE : TH5 Γ A "java/lang/IllegalStateException") (o : Nat) (ad : AD) (σ : MM) (hR : Rel K h o ad σ) (hB : Bd σ) (p : Int) (hp : RR p) (t : Int) (ht : RR t)  : Ct Γ A (Rep2 Γ A K) l yX1_dwells (ws_ yX1_dwells cX1_dwells 4 (some .int)) 10 5 24 [.ref o, IV p, IV t] h (qI (fun (r : Int) (h' : AL2) => t2 (isP σ p) (0 ≤ t ∧ t ≤ σ.1 0) = 0 ∧ r = sDwelt σ p t (σ.1 13).toNat ∧ ∃ ad', Rel K h' o ad' (σ))) (fun (E : String) (h' : AL2) => xE ["java/lang/IndexOutOfBoundsException", "java/lang/IllegalArgumentException"] (t2 (isP σ p) (0 ≤ t ∧ t ≤ σ.1 0)) E ∧ ∃ ad', Rel K h' o ad' σ) := by
  refine Ct.ofJ (own := RX1) (nm := "dwells") (lo := [some (.ref o), some (IV p), some (IV t), none]) pn_X1 rfl rfl (List.forall_mem_cons.mpr ⟨rfl, (List.forall_mem_cons.mpr ⟨rfl, (List.forall_mem_cons.mpr ⟨rfl, (fun _ h => nomatch h)⟩)⟩)⟩) (Nat.le_of_ble_eq_true rfl) rfl ?_
  have hQ : ∀ (r : Int) (h' : AL2), (t2 (isP σ p) (0 ≤ t ∧ t ≤ σ.1 0) = 0 ∧ r = sDwelt σ p t (σ.1 13).toNat ∧ ∃ ad', Rel K h' o ad' (σ)) → (qI (fun (r : Int) (h' : AL2) => t2 (isP σ p) (0 ≤ t ∧ t ≤ σ.1 0) = 0 ∧ r = sDwelt σ p t (σ.1 13).toNat ∧ ∃ ad', Rel K h' o ad' (σ))) (some (IV r)) h' := fun r h' h => ⟨r, rfl, h⟩
  generalize (qI (fun (r : Int) (h' : AL2) => t2 (isP σ p) (0 ≤ t ∧ t ≤ σ.1 0) = 0 ∧ r = sDwelt σ p t (σ.1 13).toNat ∧ ∃ ad', Rel K h' o ad' (σ))) = QP at hQ ⊢
  have hX : ∀ (E : String) (h' : AL2), (xE ["java/lang/IndexOutOfBoundsException", "java/lang/IllegalArgumentException"] (t2 (isP σ p) (0 ≤ t ∧ t ≤ σ.1 0)) E ∧ ∃ ad', Rel K h' o ad' σ) → (fun (E : String) (h' : AL2) => xE ["java/lang/IndexOutOfBoundsException", "java/lang/IllegalArgumentException"] (t2 (isP σ p) (0 ≤ t ∧ t ≤ σ.1 0)) E ∧ ∃ ad', Rel K h' o ad' σ) E h' := fun E h' h => h
  generalize (fun (E : String) (h' : AL2) => xE ["java/lang/IndexOutOfBoundsException", "java/lang/IllegalArgumentException"] (t2 (isP σ p) (0 ≤ t ∧ t ≤ σ.1 0)) E ∧ ∃ ad', Rel K h' o ad' σ) = XP at hX ⊢
  have n9 : 0 ≤ σ.1 9 ∧ σ.1 9 ≤ 20 := hB.1 9
  refine j_aload_n (pc := 0) dX1_dwells_0 rfl ?_
  refine j_iload_n (pc := 1) dX1_dwells_1 rfl ?_
  refine j_room (cl' := 2 + 3) (sl' := 10 + 14) (by omega) (by omega) ?_
  refine j_callVx (pc := 2) (c_find h hfl hke hfe hIOB o ad σ hR hB p (by omega)) (lw_V q614 q616 qs12 q44 q617) rfl md_yX1_find (RC.of2 (show h (o) = some (pO 0 [.ref (ad 1 0 0), .ref (ad 2 0 0), .ref (ad 3 0 0), .ref (ad 4 0 0), va_rf (if σ.1 14 = 0 then none else some (ad 12 0 0)), IV (σ.1 0), .ref (ad 5 0 0), .ref (ad 6 0 0)]) from hR.top) rfl) (nT _) (fun E x9 hx9 => by obtain ⟨rfl, hn9, hR9⟩ := hx9; exact hX _ _ ⟨xE_of 0 (by unfold t2; (repeat' split) <;> omega) rfl, ad, hR9⟩) (by decide) (by decide) rfl (Nat.le_of_ble_eq_true rfl) dX1_dwells_2 (qR.k (fun r_2 s_2 q_2 => ?_))
  obtain ⟨q_2p, q_2e, q_2R⟩ := q_2
  subst r_2
  refine j_astore_n (pc := 5) dX1_dwells_5 (by decide) (lo' := [some (.ref o), some (IV p), some (IV t), some (.ref (ad 7 (p).toNat 0))]) rfl ?_
  refine j_iload_n (pc := 6) dX1_dwells_6 rfl ?_
  refine j_iconst (pc := 7) dX1_dwells_7 rfl ?_
  refine j_aload_n (pc := 8) dX1_dwells_8 rfl ?_
  refine j2_get fa_X1_110_X1 (show s_2 (o) = some (pO 0 [.ref (ad 1 0 0), .ref (ad 2 0 0), .ref (ad 3 0 0), .ref (ad 4 0 0), va_rf (if σ.1 14 = 0 then none else some (ad 12 0 0)), IV (σ.1 0), .ref (ad 5 0 0), .ref (ad 6 0 0)]) from q_2R.top) rfl dX1_dwells_9 ?_
  have n_1 : 0 ≤ σ.1 0 ∧ σ.1 0 ≤ 2100 := hB.1 0
  refine j_callS (pc := 12) (c_isIn s_2 t 0 (σ.1 0) (by omega) (by decide) (by omega)) (lw_S q440 q441 q44 q442) md_yX1_isIn (by decide) (by decide) rfl (Nat.le_of_ble_eq_true rfl) dX1_dwells_12 (qI.k (fun r_12 s_12 q_12 => ?_))
  obtain ⟨e1q_12, e2q_12⟩ := q_12
  subst r_12
  subst s_12
  refine j_room (cl' := 1 + 1) (sl' := 4 + 6) (by omega) (by omega) ?_
  refine j_callSx (pc := 15) (c_want s_2 hfl RG.of2 hIAE (bI (0 ≤ t ∧ t ≤ (σ.1 0))) (bI_01 _)) (lw_S q403 q404 q44 q405) md_yX1_want (nT _) (fun E x9 hx9 => by obtain ⟨hn9, rfl, rfl⟩ := hx9; (try have hn8 := bI_0 hn9); exact hX _ _ ⟨xE_of 1 (by unfold t2; (repeat' split) <;> omega) rfl, ad, q_2R⟩) (by decide) (by decide) rfl (Nat.le_of_ble_eq_true rfl) dX1_dwells_15 (qV.k (fun s_15 q_15 => ?_))
  obtain ⟨q_15b, q_15e⟩ := q_15
  subst s_15
  have q_15c := bI_1 q_15b
  refine j_aload_n (pc := 18) dX1_dwells_18 rfl ?_
  refine j_iload_n (pc := 19) dX1_dwells_19 rfl ?_
  refine j_callV (pc := 20) (c_pDwells s_2 hfe o ad σ q_2R hB (p).toNat (by omega) t (by omega)) (lw_V q684 q685 q686 q64 q687) rfl md_yX4_dwells_2 (RC.of2 (show s_2 (ad 7 (p).toNat 0) = some (pO 4 [IV (((p).toNat : Nat) : Int), IV (σ.2 7 (p).toNat), .ref (ad 9 (p).toNat 0), IV (σ.2 8 (p).toNat)]) from q_2R.at 7 (p).toNat 0 ⟨(by omega), rfl⟩) rfl) (by decide) (by decide) rfl (Nat.le_of_ble_eq_true rfl) dX1_dwells_20 (qI.k (fun r_20 s_20 q_20 => ?_))
  obtain ⟨e1q_20, e2q_20⟩ := q_20
  subst r_20
  subst s_20
  refine j_iret (pc := 23) rfl (hQ _ _ ?_) dX1_dwells_23
  exact ⟨by unfold t2; (repeat' split) <;> omega, by rw [show ((p.toNat : Nat) : Int) = p by omega], ad, q_2R⟩

theorem fa_X1_58_X1 : FA RX1 58 0 4 := ⟨RX1, TX1, 8, "BallotFoundry", rfl, in_X1, by decide, q120, Or.inl rfl⟩
set_option maxHeartbeats 4000000 in
theorem c_stage0 {Γ : GG} {A : Nat → Prop} {K : KK} {l : Launch} (h : AL2) (o : Nat) (ad : AD) (σ : MM) (hR : Rel K h o ad σ) (hB : Bd σ) (hz : σ.1 14 = 0) : Ct Γ A (Rep2 Γ A K) l yX1_stage (ws_ yX1_stage cX1_stage 1 (some .int)) 1 0 0 [.ref o] h (qI (fun (r : Int) (h' : AL2) => r = σ.1 14 ∧ h' = h)) X0 := by
  refine Ct.ofJ (own := RX1) (nm := "stage") (lo := [some (.ref o)]) pn_X1 rfl rfl (List.forall_mem_cons.mpr ⟨rfl, (fun _ h => nomatch h)⟩) (Nat.le_of_ble_eq_true rfl) rfl ?_
  have hQ : ∀ (r : Int) (h' : AL2), (r = σ.1 14 ∧ h' = h) → (qI (fun (r : Int) (h' : AL2) => r = σ.1 14 ∧ h' = h)) (some (IV r)) h' := fun r h' h => ⟨r, rfl, h⟩
  generalize (qI (fun (r : Int) (h' : AL2) => r = σ.1 14 ∧ h' = h)) = QP at hQ ⊢
  refine j_aload_n (pc := 0) dX1_stage_0 rfl ?_
  refine j2_get fa_X1_58_X1 (show h (o) = some (pO 0 [.ref (ad 1 0 0), .ref (ad 2 0 0), .ref (ad 3 0 0), .ref (ad 4 0 0), .null, IV (σ.1 0), .ref (ad 5 0 0), .ref (ad 6 0 0)]) from hR.top0 hz) rfl dX1_stage_1 ?_
  refine j_ifnonnullN (pc := 4) dX1_stage_4 ?_
  refine j_iconst (pc := 7) dX1_stage_7 rfl ?_
  refine j_goto (pc := 8) (tgt := 18) dX1_stage_8 (by decide) ?_
  refine j_iret (pc := 18) rfl (hQ _ _ ?_) dX1_stage_18
  exact ⟨hz.symm, rfl⟩

theorem fa_X1_170_X9 : FA RX1 170 7 9 := ⟨RX9, TX9, 10, "BallotFoundry$Election", rfl, in_X9, by decide, q733, Or.inl rfl⟩
set_option maxHeartbeats 4000000 in
theorem c_stage1 {Γ : GG} {A : Nat → Prop} {K : KK} {l : Launch} (h : AL2) (o : Nat) (ad : AD) (σ : MM) (hR : Rel K h o ad σ) (hB : Bd σ) (hz : σ.1 14 ≠ 0) : Ct Γ A (Rep2 Γ A K) l yX1_stage (ws_ yX1_stage cX1_stage 1 (some .int)) 1 0 0 [.ref o] h (qI (fun (r : Int) (h' : AL2) => r = σ.1 14 ∧ h' = h)) X0 := by
  refine Ct.ofJ (own := RX1) (nm := "stage") (lo := [some (.ref o)]) pn_X1 rfl rfl (List.forall_mem_cons.mpr ⟨rfl, (fun _ h => nomatch h)⟩) (Nat.le_of_ble_eq_true rfl) rfl ?_
  have hQ : ∀ (r : Int) (h' : AL2), (r = σ.1 14 ∧ h' = h) → (qI (fun (r : Int) (h' : AL2) => r = σ.1 14 ∧ h' = h)) (some (IV r)) h' := fun r h' h => ⟨r, rfl, h⟩
  generalize (qI (fun (r : Int) (h' : AL2) => r = σ.1 14 ∧ h' = h)) = QP at hQ ⊢
  refine j_aload_n (pc := 0) dX1_stage_0 rfl ?_
  refine j2_get fa_X1_58_X1 (show h (o) = some (pO 0 [.ref (ad 1 0 0), .ref (ad 2 0 0), .ref (ad 3 0 0), .ref (ad 4 0 0), .ref (ad 12 0 0), IV (σ.1 0), .ref (ad 5 0 0), .ref (ad 6 0 0)]) from hR.top1 hz) rfl dX1_stage_1 ?_
  refine j_ifnonnull (pc := 4) (tgt := 11) dX1_stage_4 (by decide) ?_
  refine j_aload_n (pc := 11) dX1_stage_11 rfl ?_
  refine j2_get fa_X1_58_X1 (show h (o) = some (pO 0 [.ref (ad 1 0 0), .ref (ad 2 0 0), .ref (ad 3 0 0), .ref (ad 4 0 0), .ref (ad 12 0 0), IV (σ.1 0), .ref (ad 5 0 0), .ref (ad 6 0 0)]) from hR.top1 hz) rfl dX1_stage_12 ?_
  refine j2_get fa_X1_170_X9 (show h (ad 12 0 0) = some (pO 7 [IV (σ.1 15), IV (σ.1 16), IV (σ.1 17), .ref (ad 13 0 0), .ref (ad 14 0 0), .ref (ad 15 0 0), .ref (ad 16 0 0), .ref (ad 17 0 0), .ref (ad 18 0 0), IV (σ.1 14)]) from hR.at 12 0 0 ⟨hz, rfl, rfl⟩) rfl dX1_stage_15 ?_
  have n_1 : 0 ≤ σ.1 14 ∧ σ.1 14 ≤ 5 := hB.1 14
  refine j_iret (pc := 18) rfl (hQ _ _ ?_) dX1_stage_18
  exact ⟨rfl, rfl⟩

theorem c_stage {Γ : GG} {A : Nat → Prop} {K : KK} {l : Launch} (h : AL2) (o : Nat) (ad : AD) (σ : MM) (hR : Rel K h o ad σ) (hB : Bd σ) : Ct Γ A (Rep2 Γ A K) l yX1_stage (ws_ yX1_stage cX1_stage 1 (some .int)) 1 0 0 [.ref o] h (qI (fun (r : Int) (h' : AL2) => r = σ.1 14 ∧ h' = h)) X0 := by
  by_cases hz : σ.1 14 = 0
  · exact c_stage0 h o ad σ hR hB hz
  · exact c_stage1 h o ad σ hR hB hz

theorem md_yX1_stage : MD yX1_stage 0 := by decide +kernel
theorem md_yX1_allow : MD yX1_allow 1 := by decide +kernel
theorem fa_X1_150_X9 : FA RX1 150 7 3 := ⟨RX9, TX9, 10, "BallotFoundry$Election", rfl, in_X9, by decide, q720, Or.inl rfl⟩
set_option maxHeartbeats 4000000 in
theorem c_seed {Γ : GG} {A : Nat → Prop} {K : KK} {l : Launch} (h : AL2) (hfl : l.stackTraces = false) (hke : KE Γ A K) (hfe : FE Γ) (hIOB : TH5 Γ A "java/lang/IndexOutOfBoundsException") (hIAE : TH5 Γ A "java/lang/IllegalArgumentException") (hISE : TH5 Γ A "java/lang/IllegalStateException") (o : Nat) (ad : AD) (σ : MM) (hR : Rel K h o ad σ) (hB : Bd σ) (p : Int) (hp : RR p) (v : Int) (hv : RR v)  : Ct Γ A (Rep2 Γ A K) l yX1_seed (ws_ yX1_seed cX1_seed 4 (some .int)) 9 4 20 [.ref o, IV p, IV v] h (qI (fun (r : Int) (h' : AL2) => t3 (0 ≤ p ∧ p ≤ 4) (0 ≤ v ∧ v ≤ 9999) (σ.1 14 = 1 ∨ σ.1 14 = 2) = 0 ∧ r = σ.2 18 p.toNat ∧ ∃ ad', Rel K h' o ad' (setA σ 18 p.toNat v))) (fun (E : String) (h' : AL2) => xE ["java/lang/IndexOutOfBoundsException", "java/lang/IllegalArgumentException", "java/lang/IllegalStateException"] (t3 (0 ≤ p ∧ p ≤ 4) (0 ≤ v ∧ v ≤ 9999) (σ.1 14 = 1 ∨ σ.1 14 = 2)) E ∧ ∃ ad', Rel K h' o ad' σ) := by
  refine Ct.ofJ (own := RX1) (nm := "seed") (lo := [some (.ref o), some (IV p), some (IV v), none]) pn_X1 rfl rfl (List.forall_mem_cons.mpr ⟨rfl, (List.forall_mem_cons.mpr ⟨rfl, (List.forall_mem_cons.mpr ⟨rfl, (fun _ h => nomatch h)⟩)⟩)⟩) (Nat.le_of_ble_eq_true rfl) rfl ?_
  have hQ : ∀ (r : Int) (h' : AL2), (t3 (0 ≤ p ∧ p ≤ 4) (0 ≤ v ∧ v ≤ 9999) (σ.1 14 = 1 ∨ σ.1 14 = 2) = 0 ∧ r = σ.2 18 p.toNat ∧ ∃ ad', Rel K h' o ad' (setA σ 18 p.toNat v)) → (qI (fun (r : Int) (h' : AL2) => t3 (0 ≤ p ∧ p ≤ 4) (0 ≤ v ∧ v ≤ 9999) (σ.1 14 = 1 ∨ σ.1 14 = 2) = 0 ∧ r = σ.2 18 p.toNat ∧ ∃ ad', Rel K h' o ad' (setA σ 18 p.toNat v))) (some (IV r)) h' := fun r h' h => ⟨r, rfl, h⟩
  generalize (qI (fun (r : Int) (h' : AL2) => t3 (0 ≤ p ∧ p ≤ 4) (0 ≤ v ∧ v ≤ 9999) (σ.1 14 = 1 ∨ σ.1 14 = 2) = 0 ∧ r = σ.2 18 p.toNat ∧ ∃ ad', Rel K h' o ad' (setA σ 18 p.toNat v))) = QP at hQ ⊢
  have hX : ∀ (E : String) (h' : AL2), (xE ["java/lang/IndexOutOfBoundsException", "java/lang/IllegalArgumentException", "java/lang/IllegalStateException"] (t3 (0 ≤ p ∧ p ≤ 4) (0 ≤ v ∧ v ≤ 9999) (σ.1 14 = 1 ∨ σ.1 14 = 2)) E ∧ ∃ ad', Rel K h' o ad' σ) → (fun (E : String) (h' : AL2) => xE ["java/lang/IndexOutOfBoundsException", "java/lang/IllegalArgumentException", "java/lang/IllegalStateException"] (t3 (0 ≤ p ∧ p ≤ 4) (0 ≤ v ∧ v ≤ 9999) (σ.1 14 = 1 ∨ σ.1 14 = 2)) E ∧ ∃ ad', Rel K h' o ad' σ) E h' := fun E h' h => h
  generalize (fun (E : String) (h' : AL2) => xE ["java/lang/IndexOutOfBoundsException", "java/lang/IllegalArgumentException", "java/lang/IllegalStateException"] (t3 (0 ≤ p ∧ p ≤ 4) (0 ≤ v ∧ v ≤ 9999) (σ.1 14 = 1 ∨ σ.1 14 = 2)) E ∧ ∃ ad', Rel K h' o ad' σ) = XP at hX ⊢
  refine j_iconst (pc := 0) dX1_seed_0 rfl ?_
  refine j_room (cl' := 3 + 1) (sl' := 18 + 2) (by omega) (by omega) ?_
  refine j2_newa (i := 2) (N := 2) (atype := .int) hke.1 (Or.inl ⟨rfl, rfl⟩) q141 (by omega) (by omega) (by omega) dX1_seed_1 (fun a_1 h_1 n_1 e_1 => ?_)
  have z_1 : h_1 a_1 = some (pA 0 2 (fun _ => 0)) := by rw [e_1]; exact upH_self _ _ _
  have fo_a_1 : ∀ k i j, live σ k i j → ad k i j ≠ a_1 := fun k i j hl => hR.fresh n_1 hl
  have R_2 : Rel K h_1 o ad σ := hR.other (fun b c hb => by rw [e_1]; exact upH_old hb n_1)
  refine j_dup (pc := 3) dX1_seed_3 rfl ?_
  refine j_iconst (pc := 4) dX1_seed_4 rfl ?_
  refine j_iload_n (pc := 5) dX1_seed_5 rfl ?_
  refine j2_iast (i := 0) z_1 (by show 0 ≤ 0 ∧ 0 < ((2 : Nat) : Int); omega) dX1_seed_6 (fun h_6 e_6 => ?_)
  have z_3 : h_6 a_1 = some (pA 0 2 (uA (fun _ => 0) 0 p)) := by rw [e_6]; exact upH_self _ _ _
  have R_4 : Rel K h_6 o ad σ := R_2.off e_6 fo_a_1
  refine j_dup (pc := 7) dX1_seed_7 rfl ?_
  refine j_iconst (pc := 8) dX1_seed_8 rfl ?_
  refine j_iconst (pc := 9) dX1_seed_9 rfl ?_
  refine j2_iast (i := 1) z_3 (by show 0 ≤ 1 ∧ 1 < ((2 : Nat) : Int); omega) dX1_seed_10 (fun h_10 e_10 => ?_)
  have z_5 : h_10 a_1 = some (pA 0 2 (uA (uA (fun _ => 0) 0 p) 1 5)) := by rw [e_10]; exact upH_self _ _ _
  have R_6 : Rel K h_10 o ad σ := R_4.off e_10 fo_a_1
  refine j_room (cl' := 2 + 1) (sl' := 12 + 6) (by omega) (by omega) ?_
  refine j_callSx (pc := 11) (c_exist h_10 hfl RG.of2 hIOB a_1 1 (uA (uA (fun _ => 0) 0 p) 1 5) (rrA (rrA rr0 (by omega)) (by decide)) (by decide) z_5) (lw_S q370 q371 q44 q372) md_yX1_exist (nT _) (fun E x9 hx9 => by obtain ⟨rfl, hn9, rfl⟩ := hx9; rw [ex1] at hn9; exact hX _ _ ⟨xE_of 0 (by unfold t3; (repeat' split) <;> omega) rfl, ad, R_6⟩) (by decide) (by decide) rfl (Nat.le_of_ble_eq_true rfl) dX1_seed_11 (qV.k (fun s_11 q_11 => ?_))
  obtain ⟨q_11a, q_11e⟩ := q_11
  subst s_11
  have q_11b := ex1.mp q_11a
  refine j_iload_n (pc := 14) dX1_seed_14 rfl ?_
  refine j_iconst (pc := 15) dX1_seed_15 rfl ?_
  refine j_sipush (pc := 16) (a := 9999) dX1_seed_16 (by decide) ?_
  refine j_callS (pc := 19) (c_isIn h_10 v 0 9999 (by omega) (by decide) (by decide)) (lw_S q440 q441 q44 q442) md_yX1_isIn (by decide) (by decide) rfl (Nat.le_of_ble_eq_true rfl) dX1_seed_19 (qI.k (fun r_19 s_19 q_19 => ?_))
  obtain ⟨e1q_19, e2q_19⟩ := q_19
  subst r_19
  subst s_19
  refine j_room (cl' := 1 + 1) (sl' := 6 + 6) (by omega) (by omega) ?_
  refine j_callSx (pc := 22) (c_want h_10 hfl RG.of2 hIAE (bI (0 ≤ v ∧ v ≤ 9999)) (bI_01 _)) (lw_S q403 q404 q44 q405) md_yX1_want (nT _) (fun E x9 hx9 => by obtain ⟨hn9, rfl, rfl⟩ := hx9; (try have hn8 := bI_0 hn9); exact hX _ _ ⟨xE_of 1 (by unfold t3; (repeat' split) <;> omega) rfl, ad, R_6⟩) (by decide) (by decide) rfl (Nat.le_of_ble_eq_true rfl) dX1_seed_22 (qV.k (fun s_22 q_22 => ?_))
  obtain ⟨q_22b, q_22e⟩ := q_22
  subst s_22
  have q_22c := bI_1 q_22b
  refine j_aload_n (pc := 25) dX1_seed_25 rfl ?_
  refine j_callV (pc := 26) (c_stage h_10 o ad σ R_6 hB) (lw_V q172 q147 q148 q44 q149) rfl md_yX1_stage (RC.of2 (show h_10 (o) = some (pO 0 [.ref (ad 1 0 0), .ref (ad 2 0 0), .ref (ad 3 0 0), .ref (ad 4 0 0), va_rf (if σ.1 14 = 0 then none else some (ad 12 0 0)), IV (σ.1 0), .ref (ad 5 0 0), .ref (ad 6 0 0)]) from R_6.top) rfl) (by decide) (by decide) rfl (Nat.le_of_ble_eq_true rfl) dX1_seed_26 (qI.k (fun r_26 s_26 q_26 => ?_))
  obtain ⟨e1q_26, e2q_26⟩ := q_26
  subst r_26
  subst s_26
  have n14_26 : 0 ≤ σ.1 14 ∧ σ.1 14 ≤ 5 := hB.1 14
  refine j_iconst (pc := 29) dX1_seed_29 rfl ?_
  refine j_icmp_eq (pc := 30) (tgt := 41) dX1_seed_30 (by decide) (by omega) (by decide) (fun c_30 => ?_) (fun c_30 => ?_)
  · refine j_iconst (pc := 41) dX1_seed_41 rfl ?_
    refine j_goto (pc := 42) (tgt := 46) dX1_seed_42 (by decide) ?_
    refine j_room (cl' := 0 + 1) (sl' := 0 + 6) (by omega) (by omega) ?_
    refine j_callSx (pc := 46) (c_allow h_10 hfl RG.of2 hISE 1 (Or.inr rfl)) (lw_S q443 q444 q44 q445) md_yX1_allow (nT _) (fun E x9 hx9 => by obtain ⟨hn9, rfl, rfl⟩ := hx9; (try have hn8 := bI_0 hn9); exact hX _ _ ⟨xE_of 2 (by unfold t3; (repeat' split) <;> omega) rfl, ad, R_6⟩) (by decide) (by decide) rfl (Nat.le_of_ble_eq_true rfl) dX1_seed_46 (qV.k (fun s_46 q_46 => ?_))
    obtain ⟨q_46b, q_46e⟩ := q_46
    subst s_46
    have hz : σ.1 14 ≠ 0 := by omega
    refine j_aload_n (pc := 49) dX1_seed_49 rfl ?_
    refine j2_get fa_X1_58_X1 (show h_10 (o) = some (pO 0 [.ref (ad 1 0 0), .ref (ad 2 0 0), .ref (ad 3 0 0), .ref (ad 4 0 0), .ref (ad 12 0 0), IV (σ.1 0), .ref (ad 5 0 0), .ref (ad 6 0 0)]) from R_6.top1 hz) rfl dX1_seed_50 ?_
    refine j2_get fa_X1_150_X9 (show h_10 (ad 12 0 0) = some (pO 7 [IV (σ.1 15), IV (σ.1 16), IV (σ.1 17), .ref (ad 13 0 0), .ref (ad 14 0 0), .ref (ad 15 0 0), .ref (ad 16 0 0), .ref (ad 17 0 0), .ref (ad 18 0 0), IV (σ.1 14)]) from R_6.at 12 0 0 ⟨hz, rfl, rfl⟩) rfl dX1_seed_53 ?_
    refine j_iload_n (pc := 56) dX1_seed_56 rfl ?_
    refine j2_iald (i := p) (show h_10 (ad 13 0 0) = some (pA 0 5 (σ.2 18)) from R_6.at 13 0 0 ⟨hz, rfl, rfl⟩) (by show 0 ≤ p ∧ p < ((5 : Nat) : Int); omega) dX1_seed_57 ?_
    have n_7 : 0 ≤ σ.2 18 (p).toNat ∧ σ.2 18 (p).toNat ≤ 9999 := hB.2 18 ((p).toNat)
    refine j_istore_n (pc := 58) dX1_seed_58 (by decide) (lo' := [some (.ref o), some (IV p), some (IV v), some (IV (σ.2 18 (p).toNat))]) rfl ?_
    refine j_aload_n (pc := 59) dX1_seed_59 rfl ?_
    refine j2_get fa_X1_58_X1 (show h_10 (o) = some (pO 0 [.ref (ad 1 0 0), .ref (ad 2 0 0), .ref (ad 3 0 0), .ref (ad 4 0 0), .ref (ad 12 0 0), IV (σ.1 0), .ref (ad 5 0 0), .ref (ad 6 0 0)]) from R_6.top1 hz) rfl dX1_seed_60 ?_
    refine j2_get fa_X1_150_X9 (show h_10 (ad 12 0 0) = some (pO 7 [IV (σ.1 15), IV (σ.1 16), IV (σ.1 17), .ref (ad 13 0 0), .ref (ad 14 0 0), .ref (ad 15 0 0), .ref (ad 16 0 0), .ref (ad 17 0 0), .ref (ad 18 0 0), IV (σ.1 14)]) from R_6.at 12 0 0 ⟨hz, rfl, rfl⟩) rfl dX1_seed_63 ?_
    refine j_iload_n (pc := 66) dX1_seed_66 rfl ?_
    refine j_iload_n (pc := 67) dX1_seed_67 rfl ?_
    refine j2_iast (i := p) (show h_10 (ad 13 0 0) = some (pA 0 5 (σ.2 18)) from R_6.at 13 0 0 ⟨hz, rfl, rfl⟩) (by show 0 ≤ p ∧ p < ((5 : Nat) : Int); omega) dX1_seed_68 (fun h_68 e_68 => ?_)
    have z_8 : h_68 a_1 = some (pA 0 2 (uA (uA (fun _ => 0) 0 p) 1 5)) := by rw [e_68]; exact upH_k z_5 (show h_10 (ad 13 0 0) = some (pA 0 5 (σ.2 18)) from R_6.at 13 0 0 ⟨hz, rfl, rfl⟩) (by intro z; cases z)
    have z_9 : h_68 (ad 13 0 0) = some (pA 0 5 (uA (σ.2 18) (p).toNat v)) := by rw [e_68]; exact upH_self _ _ _
    have R_10 : Rel K h_68 o ad (setA σ 18 (p).toNat v) := R_6.seed hz e_68
    refine j_iload_n (pc := 69) dX1_seed_69 rfl ?_
    refine j_iret (pc := 70) rfl (hQ _ _ ?_) dX1_seed_70
    exact ⟨by unfold t3; (repeat' split) <;> omega, rfl, ad, R_10⟩
  · refine j_aload_n (pc := 33) dX1_seed_33 rfl ?_
    refine j_callV (pc := 34) (c_stage h_10 o ad σ R_6 hB) (lw_V q172 q147 q148 q44 q149) rfl md_yX1_stage (RC.of2 (show h_10 (o) = some (pO 0 [.ref (ad 1 0 0), .ref (ad 2 0 0), .ref (ad 3 0 0), .ref (ad 4 0 0), va_rf (if σ.1 14 = 0 then none else some (ad 12 0 0)), IV (σ.1 0), .ref (ad 5 0 0), .ref (ad 6 0 0)]) from R_6.top) rfl) (by decide) (by decide) rfl (Nat.le_of_ble_eq_true rfl) dX1_seed_34 (qI.k (fun r_34 s_34 q_34 => ?_))
    obtain ⟨e1q_34, e2q_34⟩ := q_34
    subst r_34
    subst s_34
    have n14_34 : 0 ≤ σ.1 14 ∧ σ.1 14 ≤ 5 := hB.1 14
    refine j_iconst (pc := 37) dX1_seed_37 rfl ?_
    refine j_icmp_ne (pc := 38) (tgt := 45) dX1_seed_38 (by decide) (by omega) (by decide) (fun c_38 => ?_) (fun c_38 => ?_)
    · refine j_iconst (pc := 45) dX1_seed_45 rfl ?_
      refine j_room (cl' := 0 + 1) (sl' := 0 + 6) (by omega) (by omega) ?_
      refine j_callSx (pc := 46) (c_allow h_10 hfl RG.of2 hISE 0 (Or.inl rfl)) (lw_S q443 q444 q44 q445) md_yX1_allow (nT _) (fun E x9 hx9 => by obtain ⟨hn9, rfl, rfl⟩ := hx9; (try have hn8 := bI_0 hn9); exact hX _ _ ⟨xE_of 2 (by unfold t3; (repeat' split) <;> omega) rfl, ad, R_6⟩) (by decide) (by decide) rfl (Nat.le_of_ble_eq_true rfl) dX1_seed_46 (qV.k (fun s_46_1 q_46_1 => ?_))
      exact absurd q_46_1.1 (by decide)
    · refine j_iconst (pc := 41) dX1_seed_41 rfl ?_
      refine j_goto (pc := 42) (tgt := 46) dX1_seed_42 (by decide) ?_
      refine j_room (cl' := 0 + 1) (sl' := 0 + 6) (by omega) (by omega) ?_
      refine j_callSx (pc := 46) (c_allow h_10 hfl RG.of2 hISE 1 (Or.inr rfl)) (lw_S q443 q444 q44 q445) md_yX1_allow (nT _) (fun E x9 hx9 => by obtain ⟨hn9, rfl, rfl⟩ := hx9; (try have hn8 := bI_0 hn9); exact hX _ _ ⟨xE_of 2 (by unfold t3; (repeat' split) <;> omega) rfl, ad, R_6⟩) (by decide) (by decide) rfl (Nat.le_of_ble_eq_true rfl) dX1_seed_46 (qV.k (fun s_46_1 q_46_1 => ?_))
      obtain ⟨q_46_1b, q_46_1e⟩ := q_46_1
      subst s_46_1
      have hz : σ.1 14 ≠ 0 := by omega
      refine j_aload_n (pc := 49) dX1_seed_49 rfl ?_
      refine j2_get fa_X1_58_X1 (show h_10 (o) = some (pO 0 [.ref (ad 1 0 0), .ref (ad 2 0 0), .ref (ad 3 0 0), .ref (ad 4 0 0), .ref (ad 12 0 0), IV (σ.1 0), .ref (ad 5 0 0), .ref (ad 6 0 0)]) from R_6.top1 hz) rfl dX1_seed_50 ?_
      refine j2_get fa_X1_150_X9 (show h_10 (ad 12 0 0) = some (pO 7 [IV (σ.1 15), IV (σ.1 16), IV (σ.1 17), .ref (ad 13 0 0), .ref (ad 14 0 0), .ref (ad 15 0 0), .ref (ad 16 0 0), .ref (ad 17 0 0), .ref (ad 18 0 0), IV (σ.1 14)]) from R_6.at 12 0 0 ⟨hz, rfl, rfl⟩) rfl dX1_seed_53 ?_
      refine j_iload_n (pc := 56) dX1_seed_56 rfl ?_
      refine j2_iald (i := p) (show h_10 (ad 13 0 0) = some (pA 0 5 (σ.2 18)) from R_6.at 13 0 0 ⟨hz, rfl, rfl⟩) (by show 0 ≤ p ∧ p < ((5 : Nat) : Int); omega) dX1_seed_57 ?_
      have n_11 : 0 ≤ σ.2 18 (p).toNat ∧ σ.2 18 (p).toNat ≤ 9999 := hB.2 18 ((p).toNat)
      refine j_istore_n (pc := 58) dX1_seed_58 (by decide) (lo' := [some (.ref o), some (IV p), some (IV v), some (IV (σ.2 18 (p).toNat))]) rfl ?_
      refine j_aload_n (pc := 59) dX1_seed_59 rfl ?_
      refine j2_get fa_X1_58_X1 (show h_10 (o) = some (pO 0 [.ref (ad 1 0 0), .ref (ad 2 0 0), .ref (ad 3 0 0), .ref (ad 4 0 0), .ref (ad 12 0 0), IV (σ.1 0), .ref (ad 5 0 0), .ref (ad 6 0 0)]) from R_6.top1 hz) rfl dX1_seed_60 ?_
      refine j2_get fa_X1_150_X9 (show h_10 (ad 12 0 0) = some (pO 7 [IV (σ.1 15), IV (σ.1 16), IV (σ.1 17), .ref (ad 13 0 0), .ref (ad 14 0 0), .ref (ad 15 0 0), .ref (ad 16 0 0), .ref (ad 17 0 0), .ref (ad 18 0 0), IV (σ.1 14)]) from R_6.at 12 0 0 ⟨hz, rfl, rfl⟩) rfl dX1_seed_63 ?_
      refine j_iload_n (pc := 66) dX1_seed_66 rfl ?_
      refine j_iload_n (pc := 67) dX1_seed_67 rfl ?_
      refine j2_iast (i := p) (show h_10 (ad 13 0 0) = some (pA 0 5 (σ.2 18)) from R_6.at 13 0 0 ⟨hz, rfl, rfl⟩) (by show 0 ≤ p ∧ p < ((5 : Nat) : Int); omega) dX1_seed_68 (fun h_68_1 e_68_1 => ?_)
      have z_12 : h_68_1 a_1 = some (pA 0 2 (uA (uA (fun _ => 0) 0 p) 1 5)) := by rw [e_68_1]; exact upH_k z_5 (show h_10 (ad 13 0 0) = some (pA 0 5 (σ.2 18)) from R_6.at 13 0 0 ⟨hz, rfl, rfl⟩) (by intro z; cases z)
      have z_13 : h_68_1 (ad 13 0 0) = some (pA 0 5 (uA (σ.2 18) (p).toNat v)) := by rw [e_68_1]; exact upH_self _ _ _
      have R_14 : Rel K h_68_1 o ad (setA σ 18 (p).toNat v) := R_6.seed hz e_68_1
      refine j_iload_n (pc := 69) dX1_seed_69 rfl ?_
      refine j_iret (pc := 70) rfl (hQ _ _ ?_) dX1_seed_70
      exact ⟨by unfold t3; (repeat' split) <;> omega, rfl, ad, R_14⟩

