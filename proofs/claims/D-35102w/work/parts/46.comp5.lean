set_option maxRecDepth 100000
theorem pn_X3 : plainName RX3 = true := by decide
theorem fp_X3_7_X3 : FP RX3 7 3 0 (.int) true := ⟨RX3, TX3, 2, "BallotFoundry$Station", tyX3, rfl, in_X3, by decide, q467, Or.inl rfl, tyX3_ok, nmX3, rfl, rfl, fun _ => rfl⟩
theorem fp_X3_13_X3 : FP RX3 13 3 1 (.int) false := ⟨RX3, TX3, 2, "BallotFoundry$Station", tyX3, rfl, in_X3, by decide, q469, Or.inl rfl, tyX3_ok, nmX3, rfl, rfl, fun h => nomatch h⟩
set_option maxHeartbeats 4000000 in
theorem c_stInit {Γ : GG} {A : Nat → Prop} {K : KK} {l : Launch} (h : AL2) (q : Nat) (c : Int) (v : Int) (hq : h q = some (pO 3 [IV 0, IV 0])) : Ct Γ A (Rep2 Γ A K) l yX3_init (ws_ yX3_init cX3_init 3 none) 2 0 0 [.ref q, IV c, IV v] h (qV (fun (h' : AL2) => h' = upH h q (pO 3 [IV c, IV v]))) X0 := by
  refine Ct.ofJ (own := RX3) (nm := "<init>") (lo := [some (.ref q), some (IV c), some (IV v)]) pn_X3 rfl rfl (List.forall_mem_cons.mpr ⟨rfl, (List.forall_mem_cons.mpr ⟨rfl, (List.forall_mem_cons.mpr ⟨rfl, (fun _ h => nomatch h)⟩)⟩)⟩) (Nat.le_of_ble_eq_true rfl) rfl ?_
  have hQ : ∀ (h' : AL2), (h' = upH h q (pO 3 [IV c, IV v])) → (qV (fun (h' : AL2) => h' = upH h q (pO 3 [IV c, IV v]))) none h' := fun h' h => ⟨rfl, h⟩
  generalize (qV (fun (h' : AL2) => h' = upH h q (pO 3 [IV c, IV v]))) = QP at hQ ⊢
  refine j_aload_n (pc := 0) dX3_init_0 rfl ?_
  refine j_objInit (pc := 1) q466 q87 q88 (by decide) (Nat.le_of_ble_eq_true rfl) dX3_init_1 ?_
  refine j_aload_n (pc := 4) dX3_init_4 rfl ?_
  refine j_iload_n (pc := 5) dX3_init_5 rfl ?_
  refine j2_putF rfl fp_X3_7_X3 hq (by decide) (Nat.le_of_ble_eq_true rfl) rfl rfl dX3_init_6 (fun h_6 e_6 => ?_)
  have z_1 : h_6 q = some (pO 3 [IV c, IV 0]) := by rw [e_6]; exact upH_self _ _ _
  refine j_aload_n (pc := 9) dX3_init_9 rfl ?_
  refine j_iload_n (pc := 10) dX3_init_10 rfl ?_
  refine j2_put fp_X3_13_X3 z_1 (by decide) (Nat.le_of_ble_eq_true rfl) rfl rfl dX3_init_11 (fun h_11 e_11 => ?_)
  have z_2 : h_11 q = some (pO 3 [IV c, IV v]) := by rw [e_11]; exact upH_self _ _ _
  refine j_vret (pc := 14) rfl (hQ _ ?_) dX3_init_14
  rw [e_11, e_6, upH_upH]; rfl

theorem mem_rg {n : Int} {f : Nat → Nat} {z : Nat} (hz : z ∈ rg n f) : ∃ i : Nat, (i : Int) < n ∧ z = f i := by
  obtain ⟨i, hi, e⟩ := List.mem_map.mp hz
  exact ⟨i, by have := List.mem_range.mp hi; omega, e.symm⟩
theorem fn_X1_97_X3 : FN RX1 97 3 2 [IV 0, IV 0] := ⟨RX3, TX3, tyX3, rfl, in_X3, tyX3_ok, q461, q462, q58, fun j hj => by rcases (show j = 0 ∨ j = 1 by omega) with rfl | rfl <;> rfl⟩
theorem md_yX3_init : MD yX3_init 2 := by decide +kernel
theorem md_yJ2_add : MD yJ2_add 1 := by decide +kernel
theorem mdx_yJ2_add : MD ⟨"java/util/List", "add", "(Ljava/lang/Object;)Z"⟩ 1 := by decide +kernel
set_option maxHeartbeats 4000000 in
theorem c_station {Γ : GG} {A : Nat → Prop} {K : KK} {l : Launch} (h : AL2) (hfl : l.stackTraces = false) (hke : KE Γ A K) (hfe : FE Γ) (hIOB : TH5 Γ A "java/lang/IndexOutOfBoundsException") (hIAE : TH5 Γ A "java/lang/IllegalArgumentException") (hISE : TH5 Γ A "java/lang/IllegalStateException") (o : Nat) (ad : AD) (σ : MM) (hR : Rel K h o ad σ) (hB : Bd σ) (c : Int) (hc : RR c) (v : Int) (hv : RR v) (hko : KO Γ RX3) : Ct Γ A (Rep2 Γ A K) l yX1_station (ws_ yX1_station cX1_station 3 (some .int)) 10 6 50 [.ref o, IV c, IV v] h (qI (fun (r : Int) (h' : AL2) => t3 (isC c) (0 ≤ v ∧ v ≤ 20) (σ.1 6 < 5) = 0 ∧ r = σ.1 6 ∧ ∃ ad', Rel K h' o ad' (setI (setA (setA σ 4 (σ.1 6).toNat c) 5 (σ.1 6).toNat v) 6 (σ.1 6 + 1)))) (fun (E : String) (h' : AL2) => xE ["java/lang/IndexOutOfBoundsException", "java/lang/IllegalArgumentException", "java/lang/IllegalStateException"] (t3 (isC c) (0 ≤ v ∧ v ≤ 20) (σ.1 6 < 5)) E ∧ ∃ ad', Rel K h' o ad' σ) := by
  refine Ct.ofJ (own := RX1) (nm := "station") (lo := [some (.ref o), some (IV c), some (IV v)]) pn_X1 rfl rfl (List.forall_mem_cons.mpr ⟨rfl, (List.forall_mem_cons.mpr ⟨rfl, (List.forall_mem_cons.mpr ⟨rfl, (fun _ h => nomatch h)⟩)⟩)⟩) (Nat.le_of_ble_eq_true rfl) rfl ?_
  have hQ : ∀ (r : Int) (h' : AL2), (t3 (isC c) (0 ≤ v ∧ v ≤ 20) (σ.1 6 < 5) = 0 ∧ r = σ.1 6 ∧ ∃ ad', Rel K h' o ad' (setI (setA (setA σ 4 (σ.1 6).toNat c) 5 (σ.1 6).toNat v) 6 (σ.1 6 + 1))) → (qI (fun (r : Int) (h' : AL2) => t3 (isC c) (0 ≤ v ∧ v ≤ 20) (σ.1 6 < 5) = 0 ∧ r = σ.1 6 ∧ ∃ ad', Rel K h' o ad' (setI (setA (setA σ 4 (σ.1 6).toNat c) 5 (σ.1 6).toNat v) 6 (σ.1 6 + 1)))) (some (IV r)) h' := fun r h' h => ⟨r, rfl, h⟩
  generalize (qI (fun (r : Int) (h' : AL2) => t3 (isC c) (0 ≤ v ∧ v ≤ 20) (σ.1 6 < 5) = 0 ∧ r = σ.1 6 ∧ ∃ ad', Rel K h' o ad' (setI (setA (setA σ 4 (σ.1 6).toNat c) 5 (σ.1 6).toNat v) 6 (σ.1 6 + 1)))) = QP at hQ ⊢
  have hX : ∀ (E : String) (h' : AL2), (xE ["java/lang/IndexOutOfBoundsException", "java/lang/IllegalArgumentException", "java/lang/IllegalStateException"] (t3 (isC c) (0 ≤ v ∧ v ≤ 20) (σ.1 6 < 5)) E ∧ ∃ ad', Rel K h' o ad' σ) → (fun (E : String) (h' : AL2) => xE ["java/lang/IndexOutOfBoundsException", "java/lang/IllegalArgumentException", "java/lang/IllegalStateException"] (t3 (isC c) (0 ≤ v ∧ v ≤ 20) (σ.1 6 < 5)) E ∧ ∃ ad', Rel K h' o ad' σ) E h' := fun E h' h => h
  generalize (fun (E : String) (h' : AL2) => xE ["java/lang/IndexOutOfBoundsException", "java/lang/IllegalArgumentException", "java/lang/IllegalStateException"] (t3 (isC c) (0 ≤ v ∧ v ≤ 20) (σ.1 6 < 5)) E ∧ ∃ ad', Rel K h' o ad' σ) = XP at hX ⊢
  have n6 : 0 ≤ σ.1 6 ∧ σ.1 6 ≤ 5 := hB.1 6
  refine j_iconst (pc := 0) dX1_station_0 rfl ?_
  refine j_room (cl' := 5 + 1) (sl' := 48 + 2) (by omega) (by omega) ?_
  refine j2_newa (i := 2) (N := 2) (atype := .int) hke.1 (Or.inl ⟨rfl, rfl⟩) q141 (by omega) (by omega) (by omega) dX1_station_1 (fun a_1 h_1 n_1 e_1 => ?_)
  have z_1 : h_1 a_1 = some (pA 0 2 (fun _ => 0)) := by rw [e_1]; exact upH_self _ _ _
  have fo_a_1 : ∀ k i j, live σ k i j → ad k i j ≠ a_1 := fun k i j hl => hR.fresh n_1 hl
  have R_2 : Rel K h_1 o ad σ := hR.other (fun b c hb => by rw [e_1]; exact upH_old hb n_1)
  refine j_dup (pc := 3) dX1_station_3 rfl ?_
  refine j_iconst (pc := 4) dX1_station_4 rfl ?_
  refine j_iload_n (pc := 5) dX1_station_5 rfl ?_
  refine j2_iast (i := 0) z_1 (by show 0 ≤ 0 ∧ 0 < ((2 : Nat) : Int); omega) dX1_station_6 (fun h_6 e_6 => ?_)
  have z_3 : h_6 a_1 = some (pA 0 2 (uA (fun _ => 0) 0 c)) := by rw [e_6]; exact upH_self _ _ _
  have R_4 : Rel K h_6 o ad σ := R_2.off e_6 fo_a_1
  refine j_dup (pc := 7) dX1_station_7 rfl ?_
  refine j_iconst (pc := 8) dX1_station_8 rfl ?_
  refine j_bipush (pc := 9) (a := 36) dX1_station_9 (by decide) ?_
  refine j2_iast (i := 1) z_3 (by show 0 ≤ 1 ∧ 1 < ((2 : Nat) : Int); omega) dX1_station_11 (fun h_11 e_11 => ?_)
  have z_5 : h_11 a_1 = some (pA 0 2 (uA (uA (fun _ => 0) 0 c) 1 36)) := by rw [e_11]; exact upH_self _ _ _
  have R_6 : Rel K h_11 o ad σ := R_4.off e_11 fo_a_1
  refine j_room (cl' := 4 + 1) (sl' := 42 + 6) (by omega) (by omega) ?_
  refine j_callSx (pc := 12) (c_exist h_11 hfl RG.of2 hIOB a_1 1 (uA (uA (fun _ => 0) 0 c) 1 36) (rrA (rrA rr0 (by omega)) (by decide)) (by decide) z_5) (lw_S q370 q371 q44 q372) md_yX1_exist (nT _) (fun E x9 hx9 => by obtain ⟨rfl, hn9, rfl⟩ := hx9; rw [ex1] at hn9; exact hX _ _ ⟨xE_of 0 (by unfold t3; (repeat' split) <;> omega) rfl, ad, R_6⟩) (by decide) (by decide) rfl (Nat.le_of_ble_eq_true rfl) dX1_station_12 (qV.k (fun s_12 q_12 => ?_))
  obtain ⟨q_12a, q_12e⟩ := q_12
  subst s_12
  have q_12b := ex1.mp q_12a
  refine j_iload_n (pc := 15) dX1_station_15 rfl ?_
  refine j_iconst (pc := 16) dX1_station_16 rfl ?_
  refine j_bipush (pc := 17) (a := 20) dX1_station_17 (by decide) ?_
  refine j_callS (pc := 19) (c_isIn h_11 v 0 20 (by omega) (by decide) (by decide)) (lw_S q440 q441 q44 q442) md_yX1_isIn (by decide) (by decide) rfl (Nat.le_of_ble_eq_true rfl) dX1_station_19 (qI.k (fun r_19 s_19 q_19 => ?_))
  obtain ⟨e1q_19, e2q_19⟩ := q_19
  subst r_19
  subst s_19
  refine j_room (cl' := 3 + 1) (sl' := 36 + 6) (by omega) (by omega) ?_
  refine j_callSx (pc := 22) (c_want h_11 hfl RG.of2 hIAE (bI (0 ≤ v ∧ v ≤ 20)) (bI_01 _)) (lw_S q403 q404 q44 q405) md_yX1_want (nT _) (fun E x9 hx9 => by obtain ⟨hn9, rfl, rfl⟩ := hx9; (try have hn8 := bI_0 hn9); exact hX _ _ ⟨xE_of 1 (by unfold t3; (repeat' split) <;> omega) rfl, ad, R_6⟩) (by decide) (by decide) rfl (Nat.le_of_ble_eq_true rfl) dX1_station_22 (qV.k (fun s_22 q_22 => ?_))
  obtain ⟨q_22b, q_22e⟩ := q_22
  subst s_22
  have q_22c := bI_1 q_22b
  refine j_aload_n (pc := 25) dX1_station_25 rfl ?_
  refine j2_get fa_X1_20_X1 (show h_11 (o) = some (pO 0 [.ref (ad 1 0 0), .ref (ad 2 0 0), .ref (ad 3 0 0), .ref (ad 4 0 0), va_rf (if σ.1 14 = 0 then none else some (ad 12 0 0)), IV (σ.1 0), .ref (ad 5 0 0), .ref (ad 6 0 0)]) from R_6.top) rfl dX1_station_26 ?_
  refine j_callF (pc := 29) (xm := ⟨"java/util/List", "size", "()I"⟩) (l2_size (show h_11 (ad 3 0 0) = some (pL (rg (σ.1 6) (fun p => ad 8 p 0))) from R_6.at 3 0 0 ⟨rfl, rfl⟩)) (lw_F q155 q159 q161 q47 q163) hfe.1 (ci := 2) rfl rfl mdx_yJ2_size (RC.ofL (show h_11 (ad 3 0 0) = some (pL (rg (σ.1 6) (fun p => ad 8 p 0))) from R_6.at 3 0 0 ⟨rfl, rfl⟩)) (by decide) (by decide) rfl (Nat.le_of_ble_eq_true rfl) dX1_station_29 (qI.k (fun r_29 s_29 q_29 => ?_))
  obtain ⟨e1q_29, e2q_29⟩ := q_29
  subst s_29
  rw [rg_len (by omega)] at e1q_29
  subst r_29
  refine j_iconst (pc := 34) dX1_station_34 rfl ?_
  refine j_icmp_ge (pc := 35) (tgt := 42) dX1_station_35 (by decide) (by omega) (by decide) (fun c_35 => ?_) (fun c_35 => ?_)
  · refine j_iconst (pc := 42) dX1_station_42 rfl ?_
    refine j_room (cl' := 2 + 1) (sl' := 30 + 6) (by omega) (by omega) ?_
    refine j_callSx (pc := 43) (c_allow h_11 hfl RG.of2 hISE 0 (Or.inl rfl)) (lw_S q443 q444 q44 q445) md_yX1_allow (nT _) (fun E x9 hx9 => by obtain ⟨hn9, rfl, rfl⟩ := hx9; (try have hn8 := bI_0 hn9); exact hX _ _ ⟨xE_of 2 (by unfold t3; (repeat' split) <;> omega) rfl, ad, R_6⟩) (by decide) (by decide) rfl (Nat.le_of_ble_eq_true rfl) dX1_station_43 (qV.k (fun s_43 q_43 => ?_))
    exact absurd q_43.1 (by decide)
  · refine j_iconst (pc := 38) dX1_station_38 rfl ?_
    refine j_goto (pc := 39) (tgt := 43) dX1_station_39 (by decide) ?_
    refine j_room (cl' := 2 + 1) (sl' := 30 + 6) (by omega) (by omega) ?_
    refine j_callSx (pc := 43) (c_allow h_11 hfl RG.of2 hISE 1 (Or.inr rfl)) (lw_S q443 q444 q44 q445) md_yX1_allow (nT _) (fun E x9 hx9 => by obtain ⟨hn9, rfl, rfl⟩ := hx9; (try have hn8 := bI_0 hn9); exact hX _ _ ⟨xE_of 2 (by unfold t3; (repeat' split) <;> omega) rfl, ad, R_6⟩) (by decide) (by decide) rfl (Nat.le_of_ble_eq_true rfl) dX1_station_43 (qV.k (fun s_43_1 q_43_1 => ?_))
    obtain ⟨q_43_1b, q_43_1e⟩ := q_43_1
    subst s_43_1
    refine j_aload_n (pc := 46) dX1_station_46 rfl ?_
    refine j2_get fa_X1_20_X1 (show h_11 (o) = some (pO 0 [.ref (ad 1 0 0), .ref (ad 2 0 0), .ref (ad 3 0 0), .ref (ad 4 0 0), va_rf (if σ.1 14 = 0 then none else some (ad 12 0 0)), IV (σ.1 0), .ref (ad 5 0 0), .ref (ad 6 0 0)]) from R_6.top) rfl dX1_station_47 ?_
    refine j_room (cl' := 1 + 1) (sl' := 28 + 2) (by omega) (by omega) ?_
    refine j2_new hke.1 (Or.inl (by decide)) fn_X1_97_X3 dX1_station_50 (fun a_50 h_50 n_50 e_50 => ?_)
    have z_7 : h_50 a_1 = some (pA 0 2 (uA (uA (fun _ => 0) 0 c) 1 36)) := by rw [e_50]; exact upH_old z_5 n_50
    have z_8 : h_50 a_50 = some (pO 3 [IV 0, IV 0]) := by rw [e_50]; exact upH_self _ _ _
    have fo_a_50 : ∀ k i j, live σ k i j → ad k i j ≠ a_50 := fun k i j hl => R_6.fresh n_50 hl
    have R_9 : Rel K h_50 o ad σ := R_6.other (fun b c hb => by rw [e_50]; exact upH_old hb n_50)
    refine j_dup (pc := 53) dX1_station_53 rfl ?_
    refine j_iload_n (pc := 54) dX1_station_54 rfl ?_
    refine j_iload_n (pc := 55) dX1_station_55 rfl ?_
    refine j_callI (pc := 56) (c_stInit h_50 a_50 c v z_8) (lw_meth q465) q58 q463 q464 rfl md_yX3_init (by decide) (by decide) rfl (Nat.le_of_ble_eq_true rfl) dX1_station_56 (qV.k (fun s_56 q_56 => ?_))
    have z_10 : s_56 a_1 = some (pA 0 2 (uA (uA (fun _ => 0) 0 c) 1 36)) := by rw [q_56]; exact upH_k z_7 z_8 (by intro z; cases z)
    have z_11 : s_56 a_50 = some (pO 3 [IV c, IV v]) := by rw [q_56]; exact upH_self _ _ _
    have R_12 : Rel K s_56 o ad σ := R_9.off q_56 fo_a_50
    refine j_room (cl' := 0 + 1) (sl' := 8 + 20) (by omega) (by omega) ?_
    refine j_callF (pc := 59) (xm := ⟨"java/util/List", "add", "(Ljava/lang/Object;)Z"⟩) (l2_add hke (show s_56 (ad 3 0 0) = some (pL (rg (σ.1 6) (fun p => ad 8 p 0))) from R_12.at 3 0 0 ⟨rfl, rfl⟩) hko (Or.inl ⟨3, _, z_11, by decide, rfl⟩) (fun z hz => by obtain ⟨i9, h9, rfl⟩ := mem_rg hz; exact Or.inl ⟨3, _, R_12.at 8 i9 0 ⟨h9, rfl⟩, by decide, rfl⟩) (by have h9 := rg_len (n := σ.1 6) (by omega) (fun s => ad 8 s 0); omega) 20 (by have h9 := rg_len (n := σ.1 6) (by omega) (fun s => ad 8 s 0); omega)) (lw_F q477 q480 q482 q47 q484) hfe.2.2.2.1 (ci := 2) rfl rfl mdx_yJ2_add (RC.ofL (show s_56 (ad 3 0 0) = some (pL (rg (σ.1 6) (fun p => ad 8 p 0))) from R_12.at 3 0 0 ⟨rfl, rfl⟩)) (by decide) (by decide) rfl (Nat.le_of_ble_eq_true rfl) dX1_station_59 (qI.k (fun r_59 s_59 q_59 => ?_))
    obtain ⟨e1q_59, e2q_59⟩ := q_59
    subst r_59
    obtain ⟨ad1, R1⟩ : ∃ ad1, Rel K s_59 o ad1 (setI (setA (setA σ 4 (σ.1 6).toNat c) 5 (σ.1 6).toNat v) 6 (σ.1 6 + 1)) := ⟨_, R_12.station (by omega) fo_a_50 z_11 e2q_59⟩
    refine j_pop (pc := 64) dX1_station_64 rfl ?_
    refine j_aload_n (pc := 65) dX1_station_65 rfl ?_
    refine j2_get fa_X1_20_X1 (show s_59 (o) = some (pO 0 [.ref (ad1 1 0 0), .ref (ad1 2 0 0), .ref (ad1 3 0 0), .ref (ad1 4 0 0), va_rf (if σ.1 14 = 0 then none else some (ad1 12 0 0)), IV (σ.1 0), .ref (ad1 5 0 0), .ref (ad1 6 0 0)]) from R1.top) rfl dX1_station_66 ?_
    refine j_callF (pc := 69) (xm := ⟨"java/util/List", "size", "()I"⟩) (l2_size (show s_59 (ad1 3 0 0) = some (pL (rg (σ.1 6 + 1) (fun p => ad1 8 p 0))) from R1.at 3 0 0 ⟨rfl, rfl⟩)) (lw_F q155 q159 q161 q47 q163) hfe.1 (ci := 2) rfl rfl mdx_yJ2_size (RC.ofL (show s_59 (ad1 3 0 0) = some (pL (rg (σ.1 6 + 1) (fun p => ad1 8 p 0))) from R1.at 3 0 0 ⟨rfl, rfl⟩)) (by decide) (by decide) rfl (Nat.le_of_ble_eq_true rfl) dX1_station_69 (qI.k (fun r_69 s_69 q_69 => ?_))
    obtain ⟨e1q_69, e2q_69⟩ := q_69
    subst s_69
    rw [rg_len (by omega)] at e1q_69
    subst r_69
    refine j_iconst (pc := 74) dX1_station_74 rfl ?_
    refine j_isub (pc := 75) dX1_station_75 ?_
    refine j_iret (pc := 76) rfl (hQ _ _ ?_) dX1_station_76
    exact ⟨by unfold t3; (repeat' split) <;> omega, by omega, ad1, R1⟩

theorem pn_X5 : plainName RX5 = true := by decide
theorem fp_X5_7_X5 : FP RX5 7 5 0 (.int) true := ⟨RX5, TX5, 2, "BallotFoundry$Dwelling", tyX5, rfl, in_X5, by decide, q596, Or.inl rfl, tyX5_ok, nmX5, rfl, rfl, fun _ => rfl⟩
theorem fp_X5_13_X5 : FP RX5 13 5 1 (.int) true := ⟨RX5, TX5, 2, "BallotFoundry$Dwelling", tyX5, rfl, in_X5, by decide, q598, Or.inl rfl, tyX5_ok, nmX5, rfl, rfl, fun _ => rfl⟩
set_option maxHeartbeats 4000000 in
theorem c_dwInit {Γ : GG} {A : Nat → Prop} {K : KK} {l : Launch} (h : AL2) (q : Nat) (dy : Int) (c : Int) (hq : h q = some (pO 5 [IV 0, IV 0])) : Ct Γ A (Rep2 Γ A K) l yX5_init (ws_ yX5_init cX5_init 3 none) 2 0 0 [.ref q, IV dy, IV c] h (qV (fun (h' : AL2) => h' = upH h q (pO 5 [IV dy, IV c]))) X0 := by
  refine Ct.ofJ (own := RX5) (nm := "<init>") (lo := [some (.ref q), some (IV dy), some (IV c)]) pn_X5 rfl rfl (List.forall_mem_cons.mpr ⟨rfl, (List.forall_mem_cons.mpr ⟨rfl, (List.forall_mem_cons.mpr ⟨rfl, (fun _ h => nomatch h)⟩)⟩)⟩) (Nat.le_of_ble_eq_true rfl) rfl ?_
  have hQ : ∀ (h' : AL2), (h' = upH h q (pO 5 [IV dy, IV c])) → (qV (fun (h' : AL2) => h' = upH h q (pO 5 [IV dy, IV c]))) none h' := fun h' h => ⟨rfl, h⟩
  generalize (qV (fun (h' : AL2) => h' = upH h q (pO 5 [IV dy, IV c]))) = QP at hQ ⊢
  refine j_aload_n (pc := 0) dX5_init_0 rfl ?_
  refine j_objInit (pc := 1) q595 q87 q88 (by decide) (Nat.le_of_ble_eq_true rfl) dX5_init_1 ?_
  refine j_aload_n (pc := 4) dX5_init_4 rfl ?_
  refine j_iload_n (pc := 5) dX5_init_5 rfl ?_
  refine j2_putF rfl fp_X5_7_X5 hq (by decide) (Nat.le_of_ble_eq_true rfl) rfl rfl dX5_init_6 (fun h_6 e_6 => ?_)
  have z_1 : h_6 q = some (pO 5 [IV dy, IV 0]) := by rw [e_6]; exact upH_self _ _ _
  refine j_aload_n (pc := 9) dX5_init_9 rfl ?_
  refine j_iload_n (pc := 10) dX5_init_10 rfl ?_
  refine j2_putF rfl fp_X5_13_X5 z_1 (by decide) (Nat.le_of_ble_eq_true rfl) rfl rfl dX5_init_11 (fun h_11 e_11 => ?_)
  have z_2 : h_11 q = some (pO 5 [IV dy, IV c]) := by rw [e_11]; exact upH_self _ _ _
  refine j_vret (pc := 14) rfl (hQ _ ?_) dX5_init_14
  rw [e_11, e_6, upH_upH]; rfl

theorem fn_X4_31_X5 : FN RX4 31 5 2 [IV 0, IV 0] := ⟨RX5, TX5, tyX5, rfl, in_X5, tyX5_ok, q590, q591, q65, fun j hj => by rcases (show j = 0 ∨ j = 1 by omega) with rfl | rfl <;> rfl⟩
theorem md_yX5_init : MD yX5_init 2 := by decide +kernel
set_option maxHeartbeats 4000000 in
theorem c_come {Γ : GG} {A : Nat → Prop} {K : KK} {l : Launch} (h : AL2) (hke : KE Γ A K) (hfe : FE Γ) (hko : KO Γ RX5) (o : Nat) (ad : AD) (σ : MM) (hR : Rel K h o ad σ) (hB : Bd σ) (p : Nat) (hp : (p : Int) < σ.1 9) (dy c : Int) (hd : dy = σ.1 0) : Ct Γ A (Rep2 Γ A K) l yX4_come (ws_ yX4_come cX4_come 3 none) 9 2 1100 [.ref (ad 7 p 0), IV dy, IV c] h (qV (fun (h' : AL2) => ∃ ad', Rel K h' o ad' (sComes σ p c))) X0 := by
  refine Ct.ofJ (own := RX4) (nm := "come") (lo := [some (.ref (ad 7 p 0)), some (IV dy), some (IV c)]) pn_X4 rfl rfl (List.forall_mem_cons.mpr ⟨rfl, (List.forall_mem_cons.mpr ⟨rfl, (List.forall_mem_cons.mpr ⟨rfl, (fun _ h => nomatch h)⟩)⟩)⟩) (Nat.le_of_ble_eq_true rfl) rfl ?_
  have hQ : ∀ (h' : AL2), (∃ ad', Rel K h' o ad' (sComes σ p c)) → (qV (fun (h' : AL2) => ∃ ad', Rel K h' o ad' (sComes σ p c))) none h' := fun h' h => ⟨rfl, h⟩
  generalize (qV (fun (h' : AL2) => ∃ ad', Rel K h' o ad' (sComes σ p c))) = QP at hQ ⊢
  have n13 : 0 ≤ σ.1 13 ∧ σ.1 13 ≤ 540 := hB.1 13
  refine j_aload_n (pc := 0) dX4_come_0 rfl ?_
  refine j2_get fa_X4_12_X4 (show h (ad 7 p 0) = some (pO 4 [IV ((p : Nat) : Int), IV (σ.2 7 p), .ref (ad 9 p 0), IV (σ.2 8 p)]) from hR.at 7 p 0 ⟨hp, rfl⟩) rfl dX4_come_1 ?_
  refine j_room (cl' := 1 + 1) (sl' := 1098 + 2) (by omega) (by omega) ?_
  refine j2_new hke.1 (Or.inl (by decide)) fn_X4_31_X5 dX4_come_4 (fun a_4 h_4 n_4 e_4 => ?_)
  have z_1 : h_4 a_4 = some (pO 5 [IV 0, IV 0]) := by rw [e_4]; exact upH_self _ _ _
  have fo_a_4 : ∀ k i j, live σ k i j → ad k i j ≠ a_4 := fun k i j hl => hR.fresh n_4 hl
  have R_2 : Rel K h_4 o ad σ := hR.other (fun b c hb => by rw [e_4]; exact upH_old hb n_4)
  refine j_dup (pc := 7) dX4_come_7 rfl ?_
  refine j_iload_n (pc := 8) dX4_come_8 rfl ?_
  refine j_iload_n (pc := 9) dX4_come_9 rfl ?_
  refine j_callI (pc := 10) (c_dwInit h_4 a_4 dy c z_1) (lw_meth q594) q65 q592 q593 rfl md_yX5_init (by decide) (by decide) rfl (Nat.le_of_ble_eq_true rfl) dX4_come_10 (qV.k (fun s_10 q_10 => ?_))
  have z_3 : s_10 a_4 = some (pO 5 [IV dy, IV c]) := by rw [q_10]; exact upH_self _ _ _
  have R_4 : Rel K s_10 o ad σ := R_2.off q_10 fo_a_4
  refine j_room (cl' := 0 + 1) (sl' := 0 + 1098) (by omega) (by omega) ?_
  refine j_callF (pc := 13) (xm := ⟨"java/util/List", "add", "(Ljava/lang/Object;)Z"⟩) (l2_add hke (show s_10 (ad 9 p 0) = some (pL ((mvs σ p).map (fun m => ad 10 m 0))) from R_4.at 9 p 0 ⟨hp, rfl⟩) hko (Or.inl ⟨5, _, z_3, by decide, rfl⟩) (fun z hz => by obtain ⟨m9, h9, rfl⟩ := List.mem_map.mp hz; exact Or.inl ⟨5, _, R_4.at 10 m9 0 ⟨mvs_lt h9, rfl⟩, by decide, rfl⟩) (by rw [List.length_map]; have := mvs_len hB p; omega) 1098 (by rw [List.length_map]; have := mvs_len hB p; omega)) (lw_F q606 q480 q482 q47 q484) hfe.2.2.2.1 (ci := 2) rfl rfl mdx_yJ2_add (RC.ofL (show s_10 (ad 9 p 0) = some (pL ((mvs σ p).map (fun m => ad 10 m 0))) from R_4.at 9 p 0 ⟨hp, rfl⟩)) (by decide) (by decide) rfl (Nat.le_of_ble_eq_true rfl) dX4_come_13 (qI.k (fun r_13 s_13 q_13 => ?_))
  obtain ⟨e1q_13, e2q_13⟩ := q_13
  subst r_13
  obtain ⟨ad1, R1⟩ : ∃ ad1, Rel K s_13 o ad1 (sComes σ p c) := ⟨_, R_4.move (by omega) hp fo_a_4 (by rw [← hd]; exact z_3) e2q_13⟩
  refine j_pop (pc := 18) dX4_come_18 rfl ?_
  refine j_vret (pc := 19) rfl (hQ _ ?_) dX4_come_19
  exact ⟨_, R1⟩

set_option maxHeartbeats 4000000 in
theorem c_pNow {Γ : GG} {A : Nat → Prop} {K : KK} {l : Launch} (h : AL2) (hfe : FE Γ) (o : Nat) (ad : AD) (σ : MM) (hR : Rel K h o ad σ) (hB : Bd σ) (hW : IW σ) (p : Nat) (hp : (p : Int) < σ.1 9) : Ct Γ A (Rep2 Γ A K) l yX4_dwells (ws_ yX4_dwells cX4_dwells 1 (some .int)) 4 0 0 [.ref (ad 7 p 0)] h (qI (fun (r : Int) (h' : AL2) => r = sDwelt σ p (σ.1 0) (σ.1 13).toNat ∧ h' = h)) X0 := by
  refine Ct.ofJ (own := RX4) (nm := "dwells") (lo := [some (.ref (ad 7 p 0))]) pn_X4 rfl rfl (List.forall_mem_cons.mpr ⟨rfl, (fun _ h => nomatch h)⟩) (Nat.le_of_ble_eq_true rfl) rfl ?_
  have hQ : ∀ (r : Int) (h' : AL2), (r = sDwelt σ p (σ.1 0) (σ.1 13).toNat ∧ h' = h) → (qI (fun (r : Int) (h' : AL2) => r = sDwelt σ p (σ.1 0) (σ.1 13).toNat ∧ h' = h)) (some (IV r)) h' := fun r h' h => ⟨r, rfl, h⟩
  generalize (qI (fun (r : Int) (h' : AL2) => r = sDwelt σ p (σ.1 0) (σ.1 13).toNat ∧ h' = h)) = QP at hQ ⊢
  have hml := mvs_len hB p
  obtain ⟨m9, hm9, hl0, he9⟩ := mvs_last hW hp
  have hl9 := mvs_lt (List.mem_of_getElem? hm9)
  refine j_aload_n (pc := 0) dX4_dwells_0 rfl ?_
  refine j2_get fa_X4_12_X4 (show h (ad 7 p 0) = some (pO 4 [IV ((p : Nat) : Int), IV (σ.2 7 p), .ref (ad 9 p 0), IV (σ.2 8 p)]) from hR.at 7 p 0 ⟨hp, rfl⟩) rfl dX4_dwells_1 ?_
  refine j_aload_n (pc := 4) dX4_dwells_4 rfl ?_
  refine j2_get fa_X4_12_X4 (show h (ad 7 p 0) = some (pO 4 [IV ((p : Nat) : Int), IV (σ.2 7 p), .ref (ad 9 p 0), IV (σ.2 8 p)]) from hR.at 7 p 0 ⟨hp, rfl⟩) rfl dX4_dwells_5 ?_
  refine j_callF (pc := 8) (xm := ⟨"java/util/List", "size", "()I"⟩) (l2_size (show h (ad 9 p 0) = some (pL ((mvs σ p).map (fun m => ad 10 m 0))) from hR.at 9 p 0 ⟨hp, rfl⟩)) (lw_F q623 q159 q161 q47 q163) hfe.1 (ci := 2) rfl rfl mdx_yJ2_size (RC.ofL (show h (ad 9 p 0) = some (pL ((mvs σ p).map (fun m => ad 10 m 0))) from hR.at 9 p 0 ⟨hp, rfl⟩)) (by decide) (by decide) rfl (Nat.le_of_ble_eq_true rfl) dX4_dwells_8 (qI.k (fun r_8 s_8 q_8 => ?_))
  obtain ⟨e1q_8, e2q_8⟩ := q_8
  subst s_8
  rw [List.length_map] at e1q_8
  subst r_8
  refine j_iconst (pc := 13) dX4_dwells_13 rfl ?_
  refine j_isub (pc := 14) dX4_dwells_14 ?_
  refine j_callF (pc := 15) (xm := ⟨"java/util/List", "get", "(I)Ljava/lang/Object;"⟩) (l2_get (show h (ad 9 p 0) = some (pL ((mvs σ p).map (fun m => ad 10 m 0))) from hR.at 9 p 0 ⟨hp, rfl⟩) (i := (((mvs σ p).length : Nat) : Int) - 1) (v := ad 10 m9 0) (by omega) (by rw [List.getElem?_map, show ((((mvs σ p).length : Nat) : Int) - 1).toNat = (mvs σ p).length - 1 from (by omega), hm9]; rfl)) (lw_F q625 q185 q187 q47 q189) hfe.2.2.1 (ci := 2) rfl rfl mdx_yJ2_get (RC.ofL (show h (ad 9 p 0) = some (pL ((mvs σ p).map (fun m => ad 10 m 0))) from hR.at 9 p 0 ⟨hp, rfl⟩)) (by decide) (by decide) rfl (Nat.le_of_ble_eq_true rfl) dX4_dwells_15 (qR.k (fun r_15 s_15 q_15 => ?_))
  obtain ⟨e1q_15, e2q_15⟩ := q_15
  subst r_15
  subst s_15
  refine j2_castS (C := RX5) rfl q590 (show h (ad 10 m9 0) = some (pO 5 [IV (σ.2 11 m9), IV (σ.2 12 m9)]) from hR.at 10 m9 0 ⟨hl9, rfl⟩) dX4_dwells_20 ?_
  refine j2_get fa_X4_51_X5 (show h (ad 10 m9 0) = some (pO 5 [IV (σ.2 11 m9), IV (σ.2 12 m9)]) from hR.at 10 m9 0 ⟨hl9, rfl⟩) rfl dX4_dwells_23 ?_
  have n_1 : 0 ≤ σ.2 12 m9 ∧ σ.2 12 m9 ≤ 35 := hB.2 12 m9
  refine j_iret (pc := 26) rfl (hQ _ _ ?_) dX4_dwells_26
  exact ⟨he9, rfl⟩

theorem fa_X1_120_X4 : FA RX1 120 4 3 := ⟨RX4, TX4, 4, "BallotFoundry$Person", rfl, in_X4, by decide, q576, Or.inl rfl⟩
theorem md_yX4_dwells : MD yX4_dwells 0 := by decide +kernel
theorem md_yX4_come : MD yX4_come 2 := by decide +kernel
set_option maxHeartbeats 4000000 in
theorem c_move {Γ : GG} {A : Nat → Prop} {K : KK} {l : Launch} (h : AL2) (hfl : l.stackTraces = false) (hke : KE Γ A K) (hfe : FE Γ) (hIOB : TH5 Γ A "java/lang/IndexOutOfBoundsException") (hIAE : TH5 Γ A "java/lang/IllegalArgumentException") (hISE : TH5 Γ A "java/lang/IllegalStateException") (o : Nat) (ad : AD) (σ : MM) (hR : Rel K h o ad σ) (hB : Bd σ) (p : Int) (hp : RR p) (c : Int) (hc : RR c) (hko5 : KO Γ RX5) (hI : In σ) : Ct Γ A (Rep2 Γ A K) l yX1_move (ws_ yX1_move cX1_move 5 (some .int)) 11 8 1140 [.ref o, IV p, IV c] h (qI (fun (r : Int) (h' : AL2) => t2 (isP σ p ∧ isC c) (σ.2 8 p.toNat = 0) = 0 ∧ r = sDwelt σ p (σ.1 0) (σ.1 13).toNat ∧ ∃ ad', Rel K h' o ad' (sComes σ p c))) (fun (E : String) (h' : AL2) => xE ["java/lang/IndexOutOfBoundsException", "java/lang/IllegalStateException"] (t2 (isP σ p ∧ isC c) (σ.2 8 p.toNat = 0)) E ∧ ∃ ad', Rel K h' o ad' σ) := by
  refine Ct.ofJ (own := RX1) (nm := "move") (lo := [some (.ref o), some (IV p), some (IV c), none, none]) pn_X1 rfl rfl (List.forall_mem_cons.mpr ⟨rfl, (List.forall_mem_cons.mpr ⟨rfl, (List.forall_mem_cons.mpr ⟨rfl, (fun _ h => nomatch h)⟩)⟩)⟩) (Nat.le_of_ble_eq_true rfl) rfl ?_
  have hQ : ∀ (r : Int) (h' : AL2), (t2 (isP σ p ∧ isC c) (σ.2 8 p.toNat = 0) = 0 ∧ r = sDwelt σ p (σ.1 0) (σ.1 13).toNat ∧ ∃ ad', Rel K h' o ad' (sComes σ p c)) → (qI (fun (r : Int) (h' : AL2) => t2 (isP σ p ∧ isC c) (σ.2 8 p.toNat = 0) = 0 ∧ r = sDwelt σ p (σ.1 0) (σ.1 13).toNat ∧ ∃ ad', Rel K h' o ad' (sComes σ p c))) (some (IV r)) h' := fun r h' h => ⟨r, rfl, h⟩
  generalize (qI (fun (r : Int) (h' : AL2) => t2 (isP σ p ∧ isC c) (σ.2 8 p.toNat = 0) = 0 ∧ r = sDwelt σ p (σ.1 0) (σ.1 13).toNat ∧ ∃ ad', Rel K h' o ad' (sComes σ p c))) = QP at hQ ⊢
  have hX : ∀ (E : String) (h' : AL2), (xE ["java/lang/IndexOutOfBoundsException", "java/lang/IllegalStateException"] (t2 (isP σ p ∧ isC c) (σ.2 8 p.toNat = 0)) E ∧ ∃ ad', Rel K h' o ad' σ) → (fun (E : String) (h' : AL2) => xE ["java/lang/IndexOutOfBoundsException", "java/lang/IllegalStateException"] (t2 (isP σ p ∧ isC c) (σ.2 8 p.toNat = 0)) E ∧ ∃ ad', Rel K h' o ad' σ) E h' := fun E h' h => h
  generalize (fun (E : String) (h' : AL2) => xE ["java/lang/IndexOutOfBoundsException", "java/lang/IllegalStateException"] (t2 (isP σ p ∧ isC c) (σ.2 8 p.toNat = 0)) E ∧ ∃ ad', Rel K h' o ad' σ) = XP at hX ⊢
  have n9 : 0 ≤ σ.1 9 ∧ σ.1 9 ≤ 20 := hB.1 9
  refine j_aload_n (pc := 0) dX1_move_0 rfl ?_
  refine j_iload_n (pc := 1) dX1_move_1 rfl ?_
  refine j_room (cl' := 5 + 3) (sl' := 1126 + 14) (by omega) (by omega) ?_
  refine j_callVx (pc := 2) (c_find h hfl hke hfe hIOB o ad σ hR hB p (by omega)) (lw_V q614 q616 qs12 q44 q617) rfl md_yX1_find (RC.of2 (show h (o) = some (pO 0 [.ref (ad 1 0 0), .ref (ad 2 0 0), .ref (ad 3 0 0), .ref (ad 4 0 0), va_rf (if σ.1 14 = 0 then none else some (ad 12 0 0)), IV (σ.1 0), .ref (ad 5 0 0), .ref (ad 6 0 0)]) from hR.top) rfl) (nT _) (fun E x9 hx9 => by obtain ⟨rfl, hn9, hR9⟩ := hx9; exact hX _ _ ⟨xE_of 0 (by unfold t2; (repeat' split) <;> omega) rfl, ad, hR9⟩) (by decide) (by decide) rfl (Nat.le_of_ble_eq_true rfl) dX1_move_2 (qR.k (fun r_2 s_2 q_2 => ?_))
  obtain ⟨q_2p, q_2e, q_2R⟩ := q_2
  subst r_2
  refine j_astore_n (pc := 5) dX1_move_5 (by decide) (lo' := [some (.ref o), some (IV p), some (IV c), some (.ref (ad 7 (p).toNat 0)), none]) rfl ?_
  refine j_iconst (pc := 6) dX1_move_6 rfl ?_
  refine j_room (cl' := 4 + 1) (sl' := 1124 + 2) (by omega) (by omega) ?_
  refine j2_newa (i := 2) (N := 2) (atype := .int) hke.1 (Or.inl ⟨rfl, rfl⟩) q141 (by omega) (by omega) (by omega) dX1_move_7 (fun a_7 h_7 n_7 e_7 => ?_)
  have z_1 : h_7 a_7 = some (pA 0 2 (fun _ => 0)) := by rw [e_7]; exact upH_self _ _ _
  have fo_a_7 : ∀ k i j, live σ k i j → ad k i j ≠ a_7 := fun k i j hl => q_2R.fresh n_7 hl
  have R_2 : Rel K h_7 o ad σ := q_2R.other (fun b c hb => by rw [e_7]; exact upH_old hb n_7)
  refine j_dup (pc := 9) dX1_move_9 rfl ?_
  refine j_iconst (pc := 10) dX1_move_10 rfl ?_
  refine j_iload_n (pc := 11) dX1_move_11 rfl ?_
  refine j2_iast (i := 0) z_1 (by show 0 ≤ 0 ∧ 0 < ((2 : Nat) : Int); omega) dX1_move_12 (fun h_12 e_12 => ?_)
  have z_3 : h_12 a_7 = some (pA 0 2 (uA (fun _ => 0) 0 c)) := by rw [e_12]; exact upH_self _ _ _
  have R_4 : Rel K h_12 o ad σ := R_2.off e_12 fo_a_7
  refine j_dup (pc := 13) dX1_move_13 rfl ?_
  refine j_iconst (pc := 14) dX1_move_14 rfl ?_
  refine j_bipush (pc := 15) (a := 36) dX1_move_15 (by decide) ?_
  refine j2_iast (i := 1) z_3 (by show 0 ≤ 1 ∧ 1 < ((2 : Nat) : Int); omega) dX1_move_17 (fun h_17 e_17 => ?_)
  have z_5 : h_17 a_7 = some (pA 0 2 (uA (uA (fun _ => 0) 0 c) 1 36)) := by rw [e_17]; exact upH_self _ _ _
  have R_6 : Rel K h_17 o ad σ := R_4.off e_17 fo_a_7
  refine j_room (cl' := 3 + 1) (sl' := 1118 + 6) (by omega) (by omega) ?_
  refine j_callSx (pc := 18) (c_exist h_17 hfl RG.of2 hIOB a_7 1 (uA (uA (fun _ => 0) 0 c) 1 36) (rrA (rrA rr0 (by omega)) (by decide)) (by decide) z_5) (lw_S q370 q371 q44 q372) md_yX1_exist (nT _) (fun E x9 hx9 => by obtain ⟨rfl, hn9, rfl⟩ := hx9; rw [ex1] at hn9; exact hX _ _ ⟨xE_of 0 (by unfold t2; (repeat' split) <;> omega) rfl, ad, R_6⟩) (by decide) (by decide) rfl (Nat.le_of_ble_eq_true rfl) dX1_move_18 (qV.k (fun s_18 q_18 => ?_))
  obtain ⟨q_18a, q_18e⟩ := q_18
  subst s_18
  have q_18b := ex1.mp q_18a
  refine j_aload_n (pc := 21) dX1_move_21 rfl ?_
  refine j2_get fa_X1_120_X4 (show h_17 (ad 7 (p).toNat 0) = some (pO 4 [IV (((p).toNat : Nat) : Int), IV (σ.2 7 (p).toNat), .ref (ad 9 (p).toNat 0), IV (σ.2 8 (p).toNat)]) from R_6.at 7 (p).toNat 0 ⟨(by omega), rfl⟩) rfl dX1_move_22 ?_
  have n_7 : 0 ≤ σ.2 8 (p).toNat ∧ σ.2 8 (p).toNat ≤ 1 := hB.2 8 ((p).toNat)
  refine j_if_ne (pc := 25) (tgt := 32) dX1_move_25 (by decide) (by omega) (fun c_25 => ?_) (fun c_25 => ?_)
  · refine j_iconst (pc := 32) dX1_move_32 rfl ?_
    refine j_room (cl' := 2 + 1) (sl' := 1112 + 6) (by omega) (by omega) ?_
    refine j_callSx (pc := 33) (c_allow h_17 hfl RG.of2 hISE 0 (Or.inl rfl)) (lw_S q443 q444 q44 q445) md_yX1_allow (nT _) (fun E x9 hx9 => by obtain ⟨hn9, rfl, rfl⟩ := hx9; (try have hn8 := bI_0 hn9); exact hX _ _ ⟨xE_of 1 (by unfold t2; (repeat' split) <;> omega) rfl, ad, R_6⟩) (by decide) (by decide) rfl (Nat.le_of_ble_eq_true rfl) dX1_move_33 (qV.k (fun s_33 q_33 => ?_))
    exact absurd q_33.1 (by decide)
  · refine j_iconst (pc := 28) dX1_move_28 rfl ?_
    refine j_goto (pc := 29) (tgt := 33) dX1_move_29 (by decide) ?_
    refine j_room (cl' := 2 + 1) (sl' := 1112 + 6) (by omega) (by omega) ?_
    refine j_callSx (pc := 33) (c_allow h_17 hfl RG.of2 hISE 1 (Or.inr rfl)) (lw_S q443 q444 q44 q445) md_yX1_allow (nT _) (fun E x9 hx9 => by obtain ⟨hn9, rfl, rfl⟩ := hx9; (try have hn8 := bI_0 hn9); exact hX _ _ ⟨xE_of 1 (by unfold t2; (repeat' split) <;> omega) rfl, ad, R_6⟩) (by decide) (by decide) rfl (Nat.le_of_ble_eq_true rfl) dX1_move_33 (qV.k (fun s_33_1 q_33_1 => ?_))
    obtain ⟨q_33_1b, q_33_1e⟩ := q_33_1
    subst s_33_1
    refine j_aload_n (pc := 36) dX1_move_36 rfl ?_
    refine j_callV (pc := 37) (c_pNow h_17 hfe o ad σ R_6 hB hI.2.1 (p).toNat (by omega)) (lw_V q618 q619 q620 q64 q621) rfl md_yX4_dwells (RC.of2 (show h_17 (ad 7 (p).toNat 0) = some (pO 4 [IV (((p).toNat : Nat) : Int), IV (σ.2 7 (p).toNat), .ref (ad 9 (p).toNat 0), IV (σ.2 8 (p).toNat)]) from R_6.at 7 (p).toNat 0 ⟨(by omega), rfl⟩) rfl) (by decide) (by decide) rfl (Nat.le_of_ble_eq_true rfl) dX1_move_37 (qI.k (fun r_37 s_37 q_37 => ?_))
    obtain ⟨e1q_37, e2q_37⟩ := q_37
    subst r_37
    subst s_37
    refine j_istore (pc := 40) dX1_move_40 (by decide) (lo' := [some (.ref o), some (IV p), some (IV c), some (.ref (ad 7 (p).toNat 0)), some (IV (sDwelt σ (p).toNat (σ.1 0) (σ.1 13).toNat))]) rfl ?_
    refine j_aload_n (pc := 42) dX1_move_42 rfl ?_
    refine j_aload_n (pc := 43) dX1_move_43 rfl ?_
    refine j2_get fa_X1_110_X1 (show h_17 (o) = some (pO 0 [.ref (ad 1 0 0), .ref (ad 2 0 0), .ref (ad 3 0 0), .ref (ad 4 0 0), va_rf (if σ.1 14 = 0 then none else some (ad 12 0 0)), IV (σ.1 0), .ref (ad 5 0 0), .ref (ad 6 0 0)]) from R_6.top) rfl dX1_move_44 ?_
    have n_8 : 0 ≤ σ.1 0 ∧ σ.1 0 ≤ 2100 := hB.1 0
    refine j_iload_n (pc := 47) dX1_move_47 rfl ?_
    refine j_room (cl' := 0 + 2) (sl' := 12 + 1100) (by omega) (by omega) ?_
    refine j_callV (pc := 48) (c_come h_17 hke hfe hko5 o ad σ R_6 hB (p).toNat (by omega) (σ.1 0) c rfl) (lw_V q626 q587 q588 q64 q589) rfl md_yX4_come (RC.of2 (show h_17 (ad 7 (p).toNat 0) = some (pO 4 [IV (((p).toNat : Nat) : Int), IV (σ.2 7 (p).toNat), .ref (ad 9 (p).toNat 0), IV (σ.2 8 (p).toNat)]) from R_6.at 7 (p).toNat 0 ⟨(by omega), rfl⟩) rfl) (by decide) (by decide) rfl (Nat.le_of_ble_eq_true rfl) dX1_move_48 (qV.k (fun s_48 q_48 => ?_))
    obtain ⟨ad_48, q_48R⟩ := q_48
    refine j_iload (pc := 51) dX1_move_51 rfl ?_
    refine j_iret (pc := 53) rfl (hQ _ _ ?_) dX1_move_53
    exact ⟨by unfold t2; (repeat' split) <;> omega, by rw [show ((p.toNat : Nat) : Int) = p by omega], ad_48, by have h9 := q_48R; rw [show ((p.toNat : Nat) : Int) = p by omega] at h9; exact h9⟩

