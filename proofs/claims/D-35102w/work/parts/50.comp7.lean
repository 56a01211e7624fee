set_option maxRecDepth 100000
theorem pn_X6 : plainName RX6 = true := by decide
theorem fp_X6_7_X8 : FP RX6 7 6 0 (.int) true := ⟨RX8, TX8, 3, "BallotFoundry$Note", tyX8, rfl, in_X8, by decide, q667, Or.inl rfl, tyX8_ok, nmX8, rfl, rfl, fun _ => rfl⟩
set_option maxHeartbeats 4000000 in
theorem c_n6 {Γ : GG} {A : Nat → Prop} {K : KK} {l : Launch} (h : AL2) (q : Nat) (d9 : Int) (hq : h q = some (pO 6 [IV 0, IV 0, IV 0])) : Ct Γ A (Rep2 Γ A K) l yX6_init (ws_ yX6_init cX6_init 2 none) 2 0 0 [.ref q, IV d9] h (qV (fun (h' : AL2) => h' = upH h q (pO 6 [IV d9, IV 0, IV 0]))) X0 := by
  refine Ct.ofJ (own := RX6) (nm := "<init>") (lo := [some (.ref q), some (IV d9)]) pn_X6 rfl rfl (List.forall_mem_cons.mpr ⟨rfl, (List.forall_mem_cons.mpr ⟨rfl, (fun _ h => nomatch h)⟩)⟩) (Nat.le_of_ble_eq_true rfl) rfl ?_
  have hQ : ∀ (h' : AL2), (h' = upH h q (pO 6 [IV d9, IV 0, IV 0])) → (qV (fun (h' : AL2) => h' = upH h q (pO 6 [IV d9, IV 0, IV 0]))) none h' := fun h' h => ⟨rfl, h⟩
  generalize (qV (fun (h' : AL2) => h' = upH h q (pO 6 [IV d9, IV 0, IV 0]))) = QP at hQ ⊢
  refine j_aload_n (pc := 0) dX6_init_0 rfl ?_
  refine j_objInit (pc := 1) q662 q87 q88 (by decide) (Nat.le_of_ble_eq_true rfl) dX6_init_1 ?_
  refine j_aload_n (pc := 4) dX6_init_4 rfl ?_
  refine j_iload_n (pc := 5) dX6_init_5 rfl ?_
  refine j2_putF rfl fp_X6_7_X8 hq (by decide) (Nat.le_of_ble_eq_true rfl) rfl rfl dX6_init_6 (fun h_6 e_6 => ?_)
  have z_1 : h_6 q = some (pO 6 [IV d9, IV 0, IV 0]) := by rw [e_6]; exact upH_self _ _ _
  refine j_vret (pc := 9) rfl (hQ _ ?_) dX6_init_9
  rw [e_6]; rfl

theorem pn_X7 : plainName RX7 = true := by decide
theorem md_yX6_init : MD yX6_init 1 := by decide +kernel
theorem fp_X7_7_X8 : FP RX7 7 6 1 (.char) true := ⟨RX8, TX8, 3, "BallotFoundry$SignedNote", tyX8, rfl, in_X8, by decide, q664, Or.inl rfl, tyX8_ok, nmX8, rfl, rfl, fun _ => rfl⟩
set_option maxHeartbeats 4000000 in
theorem c_n7 {Γ : GG} {A : Nat → Prop} {K : KK} {l : Launch} (h : AL2) (q : Nat) (d9 : Int) (s9 : Int) (hs : narrow .char (IV s9) = IV s9 ∧ fits .char (IV s9) = true) (hq : h q = some (pO 6 [IV 0, IV 0, IV 0])) : Ct Γ A (Rep2 Γ A K) l yX7_init (ws_ yX7_init cX7_init 3 none) 3 0 0 [.ref q, IV d9, IV s9] h (qV (fun (h' : AL2) => h' = upH h q (pO 6 [IV d9, IV s9, IV 0]))) X0 := by
  refine Ct.ofJ (own := RX7) (nm := "<init>") (lo := [some (.ref q), some (IV d9), some (IV s9)]) pn_X7 rfl rfl (List.forall_mem_cons.mpr ⟨rfl, (List.forall_mem_cons.mpr ⟨rfl, (List.forall_mem_cons.mpr ⟨rfl, (fun _ h => nomatch h)⟩)⟩)⟩) (Nat.le_of_ble_eq_true rfl) rfl ?_
  have hQ : ∀ (h' : AL2), (h' = upH h q (pO 6 [IV d9, IV s9, IV 0])) → (qV (fun (h' : AL2) => h' = upH h q (pO 6 [IV d9, IV s9, IV 0]))) none h' := fun h' h => ⟨rfl, h⟩
  generalize (qV (fun (h' : AL2) => h' = upH h q (pO 6 [IV d9, IV s9, IV 0]))) = QP at hQ ⊢
  refine j_aload_n (pc := 0) dX7_init_0 rfl ?_
  refine j_iload_n (pc := 1) dX7_init_1 rfl ?_
  refine j_callI (pc := 2) (c_n6 h q d9 hq) (lw_meth q661) q66 q659 q660 rfl md_yX6_init (by decide) (by decide) rfl (Nat.le_of_ble_eq_true rfl) dX7_init_2 (qV.k (fun s_2 q_2 => ?_))
  have z_1 : s_2 q = some (pO 6 [IV d9, IV 0, IV 0]) := by rw [q_2]; exact upH_self _ _ _
  refine j_aload_n (pc := 5) dX7_init_5 rfl ?_
  refine j_iload_n (pc := 6) dX7_init_6 rfl ?_
  refine j2_putF rfl fp_X7_7_X8 z_1 (by decide) (Nat.le_of_ble_eq_true rfl) hs.1 hs.2 dX7_init_7 (fun h_7 e_7 => ?_)
  have z_2 : h_7 q = some (pO 6 [IV d9, IV s9, IV 0]) := by rw [e_7]; exact upH_self _ _ _
  refine j_vret (pc := 10) rfl (hQ _ ?_) dX7_init_10
  rw [e_7, q_2, upH_upH]; rfl

theorem pn_X8 : plainName RX8 = true := by decide
theorem md_yX7_init : MD yX7_init 2 := by decide +kernel
theorem fp_X8_7_X8 : FP RX8 7 6 2 (.int) true := ⟨RX8, TX8, 3, "BallotFoundry$FullNote", tyX8, rfl, in_X8, by decide, q663, Or.inl rfl, tyX8_ok, nmX8, rfl, rfl, fun _ => rfl⟩
set_option maxHeartbeats 4000000 in
theorem c_n8 {Γ : GG} {A : Nat → Prop} {K : KK} {l : Launch} (h : AL2) (q : Nat) (d9 : Int) (s9 : Int) (n9 : Int) (hs : narrow .char (IV s9) = IV s9 ∧ fits .char (IV s9) = true) (hq : h q = some (pO 6 [IV 0, IV 0, IV 0])) : Ct Γ A (Rep2 Γ A K) l yX8_init (ws_ yX8_init cX8_init 4 none) 4 0 0 [.ref q, IV d9, IV s9, IV n9] h (qV (fun (h' : AL2) => h' = upH h q (pO 6 [IV d9, IV s9, IV n9]))) X0 := by
  refine Ct.ofJ (own := RX8) (nm := "<init>") (lo := [some (.ref q), some (IV d9), some (IV s9), some (IV n9)]) pn_X8 rfl rfl (List.forall_mem_cons.mpr ⟨rfl, (List.forall_mem_cons.mpr ⟨rfl, (List.forall_mem_cons.mpr ⟨rfl, (List.forall_mem_cons.mpr ⟨rfl, (fun _ h => nomatch h)⟩)⟩)⟩)⟩) (Nat.le_of_ble_eq_true rfl) rfl ?_
  have hQ : ∀ (h' : AL2), (h' = upH h q (pO 6 [IV d9, IV s9, IV n9])) → (qV (fun (h' : AL2) => h' = upH h q (pO 6 [IV d9, IV s9, IV n9]))) none h' := fun h' h => ⟨rfl, h⟩
  generalize (qV (fun (h' : AL2) => h' = upH h q (pO 6 [IV d9, IV s9, IV n9]))) = QP at hQ ⊢
  refine j_aload_n (pc := 0) dX8_init_0 rfl ?_
  refine j_iload_n (pc := 1) dX8_init_1 rfl ?_
  refine j_iload_n (pc := 2) dX8_init_2 rfl ?_
  refine j_callI (pc := 3) (c_n7 h q d9 s9 hs hq) (lw_meth q658) q67 q656 q657 rfl md_yX7_init (by decide) (by decide) rfl (Nat.le_of_ble_eq_true rfl) dX8_init_3 (qV.k (fun s_3 q_3 => ?_))
  have z_1 : s_3 q = some (pO 6 [IV d9, IV s9, IV 0]) := by rw [q_3]; exact upH_self _ _ _
  refine j_aload_n (pc := 6) dX8_init_6 rfl ?_
  refine j_iload_n (pc := 7) dX8_init_7 rfl ?_
  refine j2_putF rfl fp_X8_7_X8 z_1 (by decide) (Nat.le_of_ble_eq_true rfl) rfl rfl dX8_init_8 (fun h_8 e_8 => ?_)
  have z_2 : h_8 q = some (pO 6 [IV d9, IV s9, IV n9]) := by rw [e_8]; exact upH_self _ _ _
  refine j_vret (pc := 11) rfl (hQ _ ?_) dX8_init_11
  rw [e_8, q_3, upH_upH]; rfl

theorem pn_X9 : plainName RX9 = true := by decide
theorem fa_X9_32_X9 : FA RX9 32 7 8 := ⟨RX9, TX9, 10, "BallotFoundry$Election", rfl, in_X9, by decide, q730, Or.inl rfl⟩
theorem fn_X9_49_X8 : FN RX9 49 6 3 [IV 0, IV 0, IV 0] := ⟨RX8, TX8, tyX8, rfl, in_X8, tyX8_ok, q651, q652, q68, fun j hj => by rcases (show j = 0 ∨ j = 1 ∨ j = 2 by omega) with rfl | rfl | rfl <;> rfl⟩
theorem md_yX8_init : MD yX8_init 3 := by decide +kernel
set_option maxHeartbeats 4000000 in
theorem c_note {Γ : GG} {A : Nat → Prop} {K : KK} {l : Launch} (h : AL2) (hke : KE Γ A K) (hfe : FE Γ) (hko : KO Γ RX8) (o : Nat) (ad : AD) (σ : MM) (hR : Rel K h o ad σ) (hB : Bd σ) (hz : σ.1 14 ≠ 0) (hn5 : σ.1 42 ≤ 250) (t s9 p : Int) (hs : narrow .char (IV s9) = IV s9 ∧ fits .char (IV s9) = true) : Ct Γ A (Rep2 Γ A K) l yX9_note (ws_ yX9_note cX9_note 4 none) 9 2 520 [.ref (ad 12 0 0), IV t, IV s9, IV p] h (qV (fun (h' : AL2) => ∃ ad', (∀ k i j, k ≠ 26 → ad' k i j = ad k i j) ∧ Rel K h' o ad' (sNote σ t s9 p))) X0 := by
  refine Ct.ofJ (own := RX9) (nm := "note") (lo := [some (.ref (ad 12 0 0)), some (IV t), some (IV s9), some (IV p)]) pn_X9 rfl rfl (List.forall_mem_cons.mpr ⟨rfl, (List.forall_mem_cons.mpr ⟨rfl, (List.forall_mem_cons.mpr ⟨rfl, (List.forall_mem_cons.mpr ⟨rfl, (fun _ h => nomatch h)⟩)⟩)⟩)⟩) (Nat.le_of_ble_eq_true rfl) rfl ?_
  have hQ : ∀ (h' : AL2), (∃ ad', (∀ k i j, k ≠ 26 → ad' k i j = ad k i j) ∧ Rel K h' o ad' (sNote σ t s9 p)) → (qV (fun (h' : AL2) => ∃ ad', (∀ k i j, k ≠ 26 → ad' k i j = ad k i j) ∧ Rel K h' o ad' (sNote σ t s9 p))) none h' := fun h' h => ⟨rfl, h⟩
  generalize (qV (fun (h' : AL2) => ∃ ad', (∀ k i j, k ≠ 26 → ad' k i j = ad k i j) ∧ Rel K h' o ad' (sNote σ t s9 p))) = QP at hQ ⊢
  have n42 : 0 ≤ σ.1 42 ∧ σ.1 42 ≤ 1000 := hB.1 42
  refine j_aload_n (pc := 0) dX9_note_0 rfl ?_
  refine j2_get fa_X9_32_X9 (show h (ad 12 0 0) = some (pO 7 [IV (σ.1 15), IV (σ.1 16), IV (σ.1 17), .ref (ad 13 0 0), .ref (ad 14 0 0), .ref (ad 15 0 0), .ref (ad 16 0 0), .ref (ad 17 0 0), .ref (ad 18 0 0), IV (σ.1 14)]) from hR.at 12 0 0 ⟨hz, rfl, rfl⟩) rfl dX9_note_1 ?_
  refine j_room (cl' := 1 + 1) (sl' := 517 + 3) (by omega) (by omega) ?_
  refine j2_new hke.1 (Or.inl (by decide)) fn_X9_49_X8 dX9_note_4 (fun a_4 h_4 n_4 e_4 => ?_)
  have z_1 : h_4 a_4 = some (pO 6 [IV 0, IV 0, IV 0]) := by rw [e_4]; exact upH_self _ _ _
  have fo_a_4 : ∀ k i j, live σ k i j → ad k i j ≠ a_4 := fun k i j hl => hR.fresh n_4 hl
  have R_2 : Rel K h_4 o ad σ := hR.other (fun b c hb => by rw [e_4]; exact upH_old hb n_4)
  refine j_dup (pc := 7) dX9_note_7 rfl ?_
  refine j_iload_n (pc := 8) dX9_note_8 rfl ?_
  refine j_iload_n (pc := 9) dX9_note_9 rfl ?_
  refine j_iload_n (pc := 10) dX9_note_10 rfl ?_
  refine j_callI (pc := 11) (c_n8 h_4 a_4 t s9 p hs z_1) (lw_meth q655) q68 q653 q654 rfl md_yX8_init (by decide) (by decide) rfl (Nat.le_of_ble_eq_true rfl) dX9_note_11 (qV.k (fun s_11 q_11 => ?_))
  have z_3 : s_11 a_4 = some (pO 6 [IV t, IV s9, IV p]) := by rw [q_11]; exact upH_self _ _ _
  have R_4 : Rel K s_11 o ad σ := R_2.off q_11 fo_a_4
  refine j_room (cl' := 0 + 1) (sl' := 2 + 515) (by omega) (by omega) ?_
  refine j_callF (pc := 14) (xm := ⟨"java/util/List", "add", "(Ljava/lang/Object;)Z"⟩) (l2_add hke (show s_11 (ad 18 0 0) = some (pL (rg (σ.1 42) (fun q => ad 26 q 0))) from R_4.at 18 0 0 ⟨hz, rfl, rfl⟩) hko (Or.inl ⟨6, _, z_3, by decide, rfl⟩) (fun z hz9 => by obtain ⟨i9, h9, rfl⟩ := mem_rg hz9; exact Or.inl ⟨6, _, R_4.at 26 i9 0 ⟨hz, h9, rfl⟩, by decide, rfl⟩) (by have h9 := rg_len (n := σ.1 42) (by omega) (fun q => ad 26 q 0); omega) 515 (by have h9 := rg_len (n := σ.1 42) (by omega) (fun q => ad 26 q 0); omega)) (lw_F q676 q480 q482 q47 q484) hfe.2.2.2.1 (ci := 2) rfl rfl mdx_yJ2_add (RC.ofL (show s_11 (ad 18 0 0) = some (pL (rg (σ.1 42) (fun q => ad 26 q 0))) from R_4.at 18 0 0 ⟨hz, rfl, rfl⟩)) (by decide) (by decide) rfl (Nat.le_of_ble_eq_true rfl) dX9_note_14 (qI.k (fun r_14 s_14 q_14 => ?_))
  obtain ⟨e1q_14, e2q_14⟩ := q_14
  subst r_14
  obtain ⟨ad1, hk1, R1⟩ : ∃ ad1, (∀ k i j, k ≠ 26 → ad1 k i j = ad k i j) ∧ Rel K s_14 o ad1 (sNote σ t s9 p) := ⟨_, fun k i j hk => adU_k hk, R_4.note hz (by omega) fo_a_4 z_3 e2q_14⟩
  refine j_pop (pc := 19) dX9_note_19 rfl ?_
  refine j_vret (pc := 20) rfl (hQ _ ?_) dX9_note_20
  exact ⟨_, hk1, R1⟩

