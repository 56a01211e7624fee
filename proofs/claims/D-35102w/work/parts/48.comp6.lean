set_option maxRecDepth 100000
theorem fn_X4_9_J2 : FN RX4 9 2 3 [IV 0, .null, IV 0] := ⟨RJ2, TJ2, tyJ2, rfl, in_J2, tyJ2_ok, q568, q90, q47, fun j hj => by rcases (show j = 0 ∨ j = 1 ∨ j = 2 by omega) with rfl | rfl | rfl <;> rfl⟩
theorem md_yJ2_init : MD yJ2_init 0 := by decide +kernel
theorem fp_X4_12_X4 : FP RX4 12 4 2 (.object "java/util/List") true := ⟨RX4, TX4, 4, "BallotFoundry$Person", tyX4, rfl, in_X4, by decide, q575, Or.inl rfl, tyX4_ok, nmX4, rfl, rfl, fun _ => rfl⟩
theorem fp_X4_18_X4 : FP RX4 18 4 0 (.int) true := ⟨RX4, TX4, 4, "BallotFoundry$Person", tyX4, rfl, in_X4, by decide, q570, Or.inl rfl, tyX4_ok, nmX4, rfl, rfl, fun _ => rfl⟩
theorem fp_X4_22_X4 : FP RX4 22 4 1 (.int) true := ⟨RX4, TX4, 4, "BallotFoundry$Person", tyX4, rfl, in_X4, by decide, q573, Or.inl rfl, tyX4_ok, nmX4, rfl, rfl, fun _ => rfl⟩
set_option maxHeartbeats 4000000 in
theorem c_pInit2 {Γ : GG} {A : Nat → Prop} {K : KK} {l : Launch} (h : AL2) (hke : KE Γ A K) (q : Nat) (a b : Int) (hq : h q = some (pO 4 [IV 0, IV 0, .null, IV 0])) : Ct Γ A (Rep2 Γ A K) l yX4_init_2 (ws_ yX4_init_2 cX4_init_2 3 none) 5 1 3 [.ref q, IV a, IV b] h (qV (fun (h' : AL2) => ∃ dl, h dl = none ∧ dl ≠ q ∧ h' = upH (upH h dl (pL [])) q (pO 4 [IV a, IV b, .ref dl, IV 0]))) X0 := by
  refine Ct.ofJ (own := RX4) (nm := "<init>") (lo := [some (.ref q), some (IV a), some (IV b)]) pn_X4 rfl rfl (List.forall_mem_cons.mpr ⟨rfl, (List.forall_mem_cons.mpr ⟨rfl, (List.forall_mem_cons.mpr ⟨rfl, (fun _ h => nomatch h)⟩)⟩)⟩) (Nat.le_of_ble_eq_true rfl) rfl ?_
  have hQ : ∀ (h' : AL2), (∃ dl, h dl = none ∧ dl ≠ q ∧ h' = upH (upH h dl (pL [])) q (pO 4 [IV a, IV b, .ref dl, IV 0])) → (qV (fun (h' : AL2) => ∃ dl, h dl = none ∧ dl ≠ q ∧ h' = upH (upH h dl (pL [])) q (pO 4 [IV a, IV b, .ref dl, IV 0]))) none h' := fun h' h => ⟨rfl, h⟩
  generalize (qV (fun (h' : AL2) => ∃ dl, h dl = none ∧ dl ≠ q ∧ h' = upH (upH h dl (pL [])) q (pO 4 [IV a, IV b, .ref dl, IV 0]))) = QP at hQ ⊢
  refine j_aload_n (pc := 0) dX4_init_2_0 rfl ?_
  refine j_objInit (pc := 1) q567 q87 q88 (by decide) (Nat.le_of_ble_eq_true rfl) dX4_init_2_1 ?_
  refine j_aload_n (pc := 4) dX4_init_2_4 rfl ?_
  refine j_room (cl' := 0 + 1) (sl' := 0 + 3) (by omega) (by omega) ?_
  refine j2_new hke.1 (Or.inr rfl) fn_X4_9_J2 dX4_init_2_5 (fun a_5 h_5 n_5 e_5 => ?_)
  have z_1 : h_5 q = some (pO 4 [IV 0, IV 0, .null, IV 0]) := by rw [e_5]; exact upH_old hq n_5
  have z_2 : h_5 a_5 = some (pO 2 [IV 0, .null, IV 0]) := by rw [e_5]; exact upH_self _ _ _
  refine j_dup (pc := 8) dX4_init_2_8 rfl ?_
  refine j_callI (pc := 9) (l2_init hke z_2) (lw_meth q93) q47 q569 q92 rfl md_yJ2_init (by decide) (by decide) rfl (Nat.le_of_ble_eq_true rfl) dX4_init_2_9 (qV.k (fun s_9 q_9 => ?_))
  have z_3 : s_9 q = some (pO 4 [IV 0, IV 0, .null, IV 0]) := by rw [q_9]; exact upH_k z_1 z_2 (by intro z; cases z)
  have z_4 : s_9 a_5 = some (pL ([])) := by rw [q_9]; exact upH_self _ _ _
  refine j2_putF rfl fp_X4_12_X4 z_3 (by decide) (Nat.le_of_ble_eq_true rfl) rfl rfl dX4_init_2_12 (fun h_12 e_12 => ?_)
  have z_5 : h_12 a_5 = some (pL ([])) := by rw [e_12]; exact upH_k z_4 z_3 (by intro z; cases z)
  have z_6 : h_12 q = some (pO 4 [IV 0, IV 0, .ref a_5, IV 0]) := by rw [e_12]; exact upH_self _ _ _
  refine j_aload_n (pc := 15) dX4_init_2_15 rfl ?_
  refine j_iload_n (pc := 16) dX4_init_2_16 rfl ?_
  refine j2_putF rfl fp_X4_18_X4 z_6 (by decide) (Nat.le_of_ble_eq_true rfl) rfl rfl dX4_init_2_17 (fun h_17 e_17 => ?_)
  have z_7 : h_17 a_5 = some (pL ([])) := by rw [e_17]; exact upH_k z_5 z_6 (by intro z; cases z)
  have z_8 : h_17 q = some (pO 4 [IV a, IV 0, .ref a_5, IV 0]) := by rw [e_17]; exact upH_self _ _ _
  refine j_aload_n (pc := 20) dX4_init_2_20 rfl ?_
  refine j_iload_n (pc := 21) dX4_init_2_21 rfl ?_
  refine j2_putF rfl fp_X4_22_X4 z_8 (by decide) (Nat.le_of_ble_eq_true rfl) rfl rfl dX4_init_2_22 (fun h_22 e_22 => ?_)
  have z_9 : h_22 a_5 = some (pL ([])) := by rw [e_22]; exact upH_k z_7 z_8 (by intro z; cases z)
  have z_10 : h_22 q = some (pO 4 [IV a, IV b, .ref a_5, IV 0]) := by rw [e_22]; exact upH_self _ _ _
  refine j_vret (pc := 25) rfl (hQ _ ?_) dX4_init_2_25
  exact ⟨a_5, n_5, Ne.symm (fresh_ne hq n_5), by rw [e_22, e_17, upH_upH, e_12, upH_upH, q_9, e_5, upH_upH]; rfl⟩

set_option maxHeartbeats 4000000 in
theorem c_come0 {Γ : GG} {A : Nat → Prop} {K : KK} {l : Launch} (h : AL2) (hke : KE Γ A K) (hfe : FE Γ) (hko : KO Γ RX5) (q dl : Nat) (n a dy c : Int) (hq : h q = some (pO 4 [IV n, IV a, .ref dl, IV 0])) (hl : h dl = some (pL [])) : Ct Γ A (Rep2 Γ A K) l yX4_come (ws_ yX4_come cX4_come 3 none) 8 2 12 [.ref q, IV dy, IV c] h (qV (fun (h' : AL2) => ∃ dw, h dw = none ∧ h' = upH (upH h dw (pO 5 [IV dy, IV c])) dl (pL [dw]))) X0 := by
  refine Ct.ofJ (own := RX4) (nm := "come") (lo := [some (.ref q), some (IV dy), some (IV c)]) pn_X4 rfl rfl (List.forall_mem_cons.mpr ⟨rfl, (List.forall_mem_cons.mpr ⟨rfl, (List.forall_mem_cons.mpr ⟨rfl, (fun _ h => nomatch h)⟩)⟩)⟩) (Nat.le_of_ble_eq_true rfl) rfl ?_
  have hQ : ∀ (h' : AL2), (∃ dw, h dw = none ∧ h' = upH (upH h dw (pO 5 [IV dy, IV c])) dl (pL [dw])) → (qV (fun (h' : AL2) => ∃ dw, h dw = none ∧ h' = upH (upH h dw (pO 5 [IV dy, IV c])) dl (pL [dw]))) none h' := fun h' h => ⟨rfl, h⟩
  generalize (qV (fun (h' : AL2) => ∃ dw, h dw = none ∧ h' = upH (upH h dw (pO 5 [IV dy, IV c])) dl (pL [dw]))) = QP at hQ ⊢
  refine j_aload_n (pc := 0) dX4_come_0 rfl ?_
  refine j2_get fa_X4_12_X4 hq rfl dX4_come_1 ?_
  refine j_room (cl' := 1 + 1) (sl' := 10 + 2) (by omega) (by omega) ?_
  refine j2_new hke.1 (Or.inl (by decide)) fn_X4_31_X5 dX4_come_4 (fun a_4 h_4 n_4 e_4 => ?_)
  have z_1 : h_4 q = some (pO 4 [IV n, IV a, .ref dl, IV 0]) := by rw [e_4]; exact upH_old hq n_4
  have z_2 : h_4 dl = some (pL ([])) := by rw [e_4]; exact upH_old hl n_4
  have z_3 : h_4 a_4 = some (pO 5 [IV 0, IV 0]) := by rw [e_4]; exact upH_self _ _ _
  refine j_dup (pc := 7) dX4_come_7 rfl ?_
  refine j_iload_n (pc := 8) dX4_come_8 rfl ?_
  refine j_iload_n (pc := 9) dX4_come_9 rfl ?_
  refine j_callI (pc := 10) (c_dwInit h_4 a_4 dy c z_3) (lw_meth q594) q65 q592 q593 rfl md_yX5_init (by decide) (by decide) rfl (Nat.le_of_ble_eq_true rfl) dX4_come_10 (qV.k (fun s_10 q_10 => ?_))
  have z_4 : s_10 q = some (pO 4 [IV n, IV a, .ref dl, IV 0]) := by rw [q_10]; exact upH_k z_1 z_3 (by intro z; cases z)
  have z_5 : s_10 dl = some (pL ([])) := by rw [q_10]; exact upH_k z_2 z_3 (by intro z; cases z)
  have z_6 : s_10 a_4 = some (pO 5 [IV dy, IV c]) := by rw [q_10]; exact upH_self _ _ _
  refine j_room (cl' := 0 + 1) (sl' := 0 + 10) (by omega) (by omega) ?_
  refine j_callF (pc := 13) (xm := ⟨"java/util/List", "add", "(Ljava/lang/Object;)Z"⟩) (l2_add hke z_5 hko (Or.inl ⟨5, _, z_6, by decide, rfl⟩) (fun z hz => by cases hz) (by decide) 10 (by decide)) (lw_F q606 q480 q482 q47 q484) hfe.2.2.2.1 (ci := 2) rfl rfl mdx_yJ2_add (RC.ofL z_5) (by decide) (by decide) rfl (Nat.le_of_ble_eq_true rfl) dX4_come_13 (qI.k (fun r_13 s_13 q_13 => ?_))
  obtain ⟨e1q_13, e2q_13⟩ := q_13
  subst r_13
  refine j_pop (pc := 18) dX4_come_18 rfl ?_
  refine j_vret (pc := 19) rfl (hQ _ ?_) dX4_come_19
  exact ⟨a_4, n_4, by rw [e2q_13, q_10, e_4, upH_upH]; rfl⟩

theorem md_yX4_init_2 : MD yX4_init_2 2 := by decide +kernel
set_option maxHeartbeats 4000000 in
theorem c_pInit {Γ : GG} {A : Nat → Prop} {K : KK} {l : Launch} (h : AL2) (hke : KE Γ A K) (hfe : FE Γ) (hko : KO Γ RX5) (q : Nat) (n a dy c : Int) (hq : h q = some (pO 4 [IV 0, IV 0, .null, IV 0])) : Ct Γ A (Rep2 Γ A K) l yX4_init (ws_ yX4_init cX4_init 5 none) 9 3 15 [.ref q, IV n, IV a, IV dy, IV c] h (qV (fun (h' : AL2) => ∃ dl dw, h dl = none ∧ h dw = none ∧ q ≠ dl ∧ q ≠ dw ∧ dl ≠ dw ∧ h' q = some (pO 4 [IV n, IV a, .ref dl, IV 0]) ∧ h' dl = some (pL [dw]) ∧ h' dw = some (pO 5 [IV dy, IV c]) ∧ ∀ b z, h b = some z → b ≠ q → h' b = some z)) X0 := by
  refine Ct.ofJ (own := RX4) (nm := "<init>") (lo := [some (.ref q), some (IV n), some (IV a), some (IV dy), some (IV c)]) pn_X4 rfl rfl (List.forall_mem_cons.mpr ⟨rfl, (List.forall_mem_cons.mpr ⟨rfl, (List.forall_mem_cons.mpr ⟨rfl, (List.forall_mem_cons.mpr ⟨rfl, (List.forall_mem_cons.mpr ⟨rfl, (fun _ h => nomatch h)⟩)⟩)⟩)⟩)⟩) (Nat.le_of_ble_eq_true rfl) rfl ?_
  have hQ : ∀ (h' : AL2), (∃ dl dw, h dl = none ∧ h dw = none ∧ q ≠ dl ∧ q ≠ dw ∧ dl ≠ dw ∧ h' q = some (pO 4 [IV n, IV a, .ref dl, IV 0]) ∧ h' dl = some (pL [dw]) ∧ h' dw = some (pO 5 [IV dy, IV c]) ∧ ∀ b z, h b = some z → b ≠ q → h' b = some z) → (qV (fun (h' : AL2) => ∃ dl dw, h dl = none ∧ h dw = none ∧ q ≠ dl ∧ q ≠ dw ∧ dl ≠ dw ∧ h' q = some (pO 4 [IV n, IV a, .ref dl, IV 0]) ∧ h' dl = some (pL [dw]) ∧ h' dw = some (pO 5 [IV dy, IV c]) ∧ ∀ b z, h b = some z → b ≠ q → h' b = some z)) none h' := fun h' h => ⟨rfl, h⟩
  generalize (qV (fun (h' : AL2) => ∃ dl dw, h dl = none ∧ h dw = none ∧ q ≠ dl ∧ q ≠ dw ∧ dl ≠ dw ∧ h' q = some (pO 4 [IV n, IV a, .ref dl, IV 0]) ∧ h' dl = some (pL [dw]) ∧ h' dw = some (pO 5 [IV dy, IV c]) ∧ ∀ b z, h b = some z → b ≠ q → h' b = some z)) = QP at hQ ⊢
  refine j_aload_n (pc := 0) dX4_init_0 rfl ?_
  refine j_iload_n (pc := 1) dX4_init_1 rfl ?_
  refine j_iload_n (pc := 2) dX4_init_2 rfl ?_
  refine j_room (cl' := 2 + 1) (sl' := 12 + 3) (by omega) (by omega) ?_
  refine j_callI (pc := 3) (c_pInit2 h hke q n a hq) (lw_meth q566) q64 q564 q565 rfl md_yX4_init_2 (by decide) (by decide) rfl (Nat.le_of_ble_eq_true rfl) dX4_init_3 (qV.k (fun s_3 q_3 => ?_))
  obtain ⟨dl2, n2i, d2i, e2i⟩ := q_3
  have zq2 : s_3 q = some (pO 4 [IV n, IV a, .ref dl2, IV 0]) := by rw [e2i]; exact upH_self _ _ _
  have zl2 : s_3 dl2 = some (pL []) := by rw [e2i]; exact upH_d (upH_self _ _ _) d2i
  refine j_aload_n (pc := 6) dX4_init_6 rfl ?_
  refine j_iload_n (pc := 7) dX4_init_7 rfl ?_
  refine j_iload (pc := 8) dX4_init_8 rfl ?_
  refine j_room (cl' := 0 + 2) (sl' := 0 + 12) (by omega) (by omega) ?_
  refine j_callV (pc := 10) (c_come0 s_3 hke hfe hko q dl2 n a dy c zq2 zl2) (lw_V q586 q587 q588 q64 q589) rfl md_yX4_come (RC.of2 zq2 rfl) (by decide) (by decide) rfl (Nat.le_of_ble_eq_true rfl) dX4_init_10 (qV.k (fun s_10 q_10 => ?_))
  obtain ⟨dw2, nw2, ew2⟩ := q_10
  refine j_vret (pc := 13) rfl (hQ _ ?_) dX4_init_13
  have w1 : dw2 ≠ q := Ne.symm (fresh_ne zq2 nw2)
  have w2 : dw2 ≠ dl2 := Ne.symm (fresh_ne zl2 nw2)
  have w3 : h dw2 = none := by rw [e2i, upH_ne w1, upH_ne w2] at nw2; exact nw2
  exact ⟨dl2, dw2, n2i, w3, Ne.symm d2i, Ne.symm w1, Ne.symm w2, by rw [ew2, upH_ne (Ne.symm d2i), upH_ne (Ne.symm w1)]; exact zq2, by rw [ew2]; exact upH_self _ _ _, by rw [ew2, upH_ne w2]; exact upH_self _ _ _, fun b z hb hbq => by rw [ew2, upH_ne (fun e => by rw [e, n2i] at hb; cases hb), upH_ne (fun e => by rw [e, w3] at hb; cases hb), e2i, upH_ne hbq]; exact upH_old hb n2i⟩

theorem fn_X1_56_X4 : FN RX1 56 4 4 [IV 0, IV 0, .null, IV 0] := ⟨RX4, TX4, tyX4, rfl, in_X4, tyX4_ok, q559, q560, q64, fun j hj => by rcases (show j = 0 ∨ j = 1 ∨ j = 2 ∨ j = 3 by omega) with rfl | rfl | rfl | rfl <;> rfl⟩
theorem md_yX4_init : MD yX4_init 4 := by decide +kernel
set_option maxHeartbeats 4000000 in
theorem c_person {Γ : GG} {A : Nat → Prop} {K : KK} {l : Launch} (h : AL2) (hfl : l.stackTraces = false) (hke : KE Γ A K) (hfe : FE Γ) (hIOB : TH5 Γ A "java/lang/IndexOutOfBoundsException") (hIAE : TH5 Γ A "java/lang/IllegalArgumentException") (hISE : TH5 Γ A "java/lang/IllegalStateException") (o : Nat) (ad : AD) (σ : MM) (hR : Rel K h o ad σ) (hB : Bd σ) (c : Int) (hc : RR c) (v : Int) (hv : RR v) (hko4 : KO Γ RX4) (hko5 : KO Γ RX5) (hI : In σ) (hd0 : σ.2 8 (σ.1 9).toNat = 0) : Ct Γ A (Rep2 Γ A K) l yX1_person (ws_ yX1_person cX1_person 3 (some .int)) 11 12 120 [.ref o, IV c, IV v] h (qI (fun (r : Int) (h' : AL2) => t3 (isC c) (0 ≤ v ∧ v ≤ 2000) (σ.1 9 < 20) = 0 ∧ r = σ.1 9 ∧ ∃ ad', Rel K h' o ad' (sComes (setI (setA σ 7 (σ.1 9).toNat v) 9 (σ.1 9 + 1)) (σ.1 9) c))) (fun (E : String) (h' : AL2) => xE ["java/lang/IndexOutOfBoundsException", "java/lang/IllegalArgumentException", "java/lang/IllegalStateException"] (t3 (isC c) (0 ≤ v ∧ v ≤ 2000) (σ.1 9 < 20)) E ∧ ∃ ad', Rel K h' o ad' σ) := by
  refine Ct.ofJ (own := RX1) (nm := "person") (lo := [some (.ref o), some (IV c), some (IV v)]) pn_X1 rfl rfl (List.forall_mem_cons.mpr ⟨rfl, (List.forall_mem_cons.mpr ⟨rfl, (List.forall_mem_cons.mpr ⟨rfl, (fun _ h => nomatch h)⟩)⟩)⟩) (Nat.le_of_ble_eq_true rfl) rfl ?_
  have hQ : ∀ (r : Int) (h' : AL2), (t3 (isC c) (0 ≤ v ∧ v ≤ 2000) (σ.1 9 < 20) = 0 ∧ r = σ.1 9 ∧ ∃ ad', Rel K h' o ad' (sComes (setI (setA σ 7 (σ.1 9).toNat v) 9 (σ.1 9 + 1)) (σ.1 9) c)) → (qI (fun (r : Int) (h' : AL2) => t3 (isC c) (0 ≤ v ∧ v ≤ 2000) (σ.1 9 < 20) = 0 ∧ r = σ.1 9 ∧ ∃ ad', Rel K h' o ad' (sComes (setI (setA σ 7 (σ.1 9).toNat v) 9 (σ.1 9 + 1)) (σ.1 9) c))) (some (IV r)) h' := fun r h' h => ⟨r, rfl, h⟩
  generalize (qI (fun (r : Int) (h' : AL2) => t3 (isC c) (0 ≤ v ∧ v ≤ 2000) (σ.1 9 < 20) = 0 ∧ r = σ.1 9 ∧ ∃ ad', Rel K h' o ad' (sComes (setI (setA σ 7 (σ.1 9).toNat v) 9 (σ.1 9 + 1)) (σ.1 9) c))) = QP at hQ ⊢
  have hX : ∀ (E : String) (h' : AL2), (xE ["java/lang/IndexOutOfBoundsException", "java/lang/IllegalArgumentException", "java/lang/IllegalStateException"] (t3 (isC c) (0 ≤ v ∧ v ≤ 2000) (σ.1 9 < 20)) E ∧ ∃ ad', Rel K h' o ad' σ) → (fun (E : String) (h' : AL2) => xE ["java/lang/IndexOutOfBoundsException", "java/lang/IllegalArgumentException", "java/lang/IllegalStateException"] (t3 (isC c) (0 ≤ v ∧ v ≤ 2000) (σ.1 9 < 20)) E ∧ ∃ ad', Rel K h' o ad' σ) E h' := fun E h' h => h
  generalize (fun (E : String) (h' : AL2) => xE ["java/lang/IndexOutOfBoundsException", "java/lang/IllegalArgumentException", "java/lang/IllegalStateException"] (t3 (isC c) (0 ≤ v ∧ v ≤ 2000) (σ.1 9 < 20)) E ∧ ∃ ad', Rel K h' o ad' σ) = XP at hX ⊢
  have n9 : 0 ≤ σ.1 9 ∧ σ.1 9 ≤ 20 := hB.1 9
  have n13 : 0 ≤ σ.1 13 ∧ σ.1 13 ≤ 540 := hB.1 13
  refine j_iconst (pc := 0) dX1_person_0 rfl ?_
  refine j_room (cl' := 11 + 1) (sl' := 118 + 2) (by omega) (by omega) ?_
  refine j2_newa (i := 2) (N := 2) (atype := .int) hke.1 (Or.inl ⟨rfl, rfl⟩) q141 (by omega) (by omega) (by omega) dX1_person_1 (fun a_1 h_1 n_1 e_1 => ?_)
  have z_1 : h_1 a_1 = some (pA 0 2 (fun _ => 0)) := by rw [e_1]; exact upH_self _ _ _
  have fo_a_1 : ∀ k i j, live σ k i j → ad k i j ≠ a_1 := fun k i j hl => hR.fresh n_1 hl
  have R_2 : Rel K h_1 o ad σ := hR.other (fun b c hb => by rw [e_1]; exact upH_old hb n_1)
  refine j_dup (pc := 3) dX1_person_3 rfl ?_
  refine j_iconst (pc := 4) dX1_person_4 rfl ?_
  refine j_iload_n (pc := 5) dX1_person_5 rfl ?_
  refine j2_iast (i := 0) z_1 (by show 0 ≤ 0 ∧ 0 < ((2 : Nat) : Int); omega) dX1_person_6 (fun h_6 e_6 => ?_)
  have z_3 : h_6 a_1 = some (pA 0 2 (uA (fun _ => 0) 0 c)) := by rw [e_6]; exact upH_self _ _ _
  have R_4 : Rel K h_6 o ad σ := R_2.off e_6 fo_a_1
  refine j_dup (pc := 7) dX1_person_7 rfl ?_
  refine j_iconst (pc := 8) dX1_person_8 rfl ?_
  refine j_bipush (pc := 9) (a := 36) dX1_person_9 (by decide) ?_
  refine j2_iast (i := 1) z_3 (by show 0 ≤ 1 ∧ 1 < ((2 : Nat) : Int); omega) dX1_person_11 (fun h_11 e_11 => ?_)
  have z_5 : h_11 a_1 = some (pA 0 2 (uA (uA (fun _ => 0) 0 c) 1 36)) := by rw [e_11]; exact upH_self _ _ _
  have R_6 : Rel K h_11 o ad σ := R_4.off e_11 fo_a_1
  refine j_room (cl' := 10 + 1) (sl' := 112 + 6) (by omega) (by omega) ?_
  refine j_callSx (pc := 12) (c_exist h_11 hfl RG.of2 hIOB a_1 1 (uA (uA (fun _ => 0) 0 c) 1 36) (rrA (rrA rr0 (by omega)) (by decide)) (by decide) z_5) (lw_S q370 q371 q44 q372) md_yX1_exist (nT _) (fun E x9 hx9 => by obtain ⟨rfl, hn9, rfl⟩ := hx9; rw [ex1] at hn9; exact hX _ _ ⟨xE_of 0 (by unfold t3; (repeat' split) <;> omega) rfl, ad, R_6⟩) (by decide) (by decide) rfl (Nat.le_of_ble_eq_true rfl) dX1_person_12 (qV.k (fun s_12 q_12 => ?_))
  obtain ⟨q_12a, q_12e⟩ := q_12
  subst s_12
  have q_12b := ex1.mp q_12a
  refine j_iload_n (pc := 15) dX1_person_15 rfl ?_
  refine j_iconst (pc := 16) dX1_person_16 rfl ?_
  refine j_sipush (pc := 17) (a := 2000) dX1_person_17 (by decide) ?_
  refine j_callS (pc := 20) (c_isIn h_11 v 0 2000 (by omega) (by decide) (by decide)) (lw_S q440 q441 q44 q442) md_yX1_isIn (by decide) (by decide) rfl (Nat.le_of_ble_eq_true rfl) dX1_person_20 (qI.k (fun r_20 s_20 q_20 => ?_))
  obtain ⟨e1q_20, e2q_20⟩ := q_20
  subst r_20
  subst s_20
  refine j_room (cl' := 9 + 1) (sl' := 106 + 6) (by omega) (by omega) ?_
  refine j_callSx (pc := 23) (c_want h_11 hfl RG.of2 hIAE (bI (0 ≤ v ∧ v ≤ 2000)) (bI_01 _)) (lw_S q403 q404 q44 q405) md_yX1_want (nT _) (fun E x9 hx9 => by obtain ⟨hn9, rfl, rfl⟩ := hx9; (try have hn8 := bI_0 hn9); exact hX _ _ ⟨xE_of 1 (by unfold t3; (repeat' split) <;> omega) rfl, ad, R_6⟩) (by decide) (by decide) rfl (Nat.le_of_ble_eq_true rfl) dX1_person_23 (qV.k (fun s_23 q_23 => ?_))
  obtain ⟨q_23b, q_23e⟩ := q_23
  subst s_23
  have q_23c := bI_1 q_23b
  refine j_aload_n (pc := 26) dX1_person_26 rfl ?_
  refine j2_get fa_X1_16_X1 (show h_11 (o) = some (pO 0 [.ref (ad 1 0 0), .ref (ad 2 0 0), .ref (ad 3 0 0), .ref (ad 4 0 0), va_rf (if σ.1 14 = 0 then none else some (ad 12 0 0)), IV (σ.1 0), .ref (ad 5 0 0), .ref (ad 6 0 0)]) from R_6.top) rfl dX1_person_27 ?_
  refine j_callF (pc := 30) (xm := ⟨"java/util/List", "size", "()I"⟩) (l2_size (show h_11 (ad 2 0 0) = some (pL (rg (σ.1 9) (fun p => ad 7 p 0))) from R_6.at 2 0 0 ⟨rfl, rfl⟩)) (lw_F q155 q159 q161 q47 q163) hfe.1 (ci := 2) rfl rfl mdx_yJ2_size (RC.ofL (show h_11 (ad 2 0 0) = some (pL (rg (σ.1 9) (fun p => ad 7 p 0))) from R_6.at 2 0 0 ⟨rfl, rfl⟩)) (by decide) (by decide) rfl (Nat.le_of_ble_eq_true rfl) dX1_person_30 (qI.k (fun r_30 s_30 q_30 => ?_))
  obtain ⟨e1q_30, e2q_30⟩ := q_30
  subst s_30
  rw [rg_len (by omega)] at e1q_30
  subst r_30
  refine j_bipush (pc := 35) (a := 20) dX1_person_35 (by decide) ?_
  refine j_icmp_ge (pc := 37) (tgt := 44) dX1_person_37 (by decide) (by omega) (by decide) (fun c_37 => ?_) (fun c_37 => ?_)
  · refine j_iconst (pc := 44) dX1_person_44 rfl ?_
    refine j_room (cl' := 8 + 1) (sl' := 100 + 6) (by omega) (by omega) ?_
    refine j_callSx (pc := 45) (c_allow h_11 hfl RG.of2 hISE 0 (Or.inl rfl)) (lw_S q443 q444 q44 q445) md_yX1_allow (nT _) (fun E x9 hx9 => by obtain ⟨hn9, rfl, rfl⟩ := hx9; (try have hn8 := bI_0 hn9); exact hX _ _ ⟨xE_of 2 (by unfold t3; (repeat' split) <;> omega) rfl, ad, R_6⟩) (by decide) (by decide) rfl (Nat.le_of_ble_eq_true rfl) dX1_person_45 (qV.k (fun s_45 q_45 => ?_))
    exact absurd q_45.1 (by decide)
  · refine j_iconst (pc := 40) dX1_person_40 rfl ?_
    refine j_goto (pc := 41) (tgt := 45) dX1_person_41 (by decide) ?_
    refine j_room (cl' := 8 + 1) (sl' := 100 + 6) (by omega) (by omega) ?_
    refine j_callSx (pc := 45) (c_allow h_11 hfl RG.of2 hISE 1 (Or.inr rfl)) (lw_S q443 q444 q44 q445) md_yX1_allow (nT _) (fun E x9 hx9 => by obtain ⟨hn9, rfl, rfl⟩ := hx9; (try have hn8 := bI_0 hn9); exact hX _ _ ⟨xE_of 2 (by unfold t3; (repeat' split) <;> omega) rfl, ad, R_6⟩) (by decide) (by decide) rfl (Nat.le_of_ble_eq_true rfl) dX1_person_45 (qV.k (fun s_45_1 q_45_1 => ?_))
    obtain ⟨q_45_1b, q_45_1e⟩ := q_45_1
    subst s_45_1
    refine j_aload_n (pc := 48) dX1_person_48 rfl ?_
    refine j2_get fa_X1_16_X1 (show h_11 (o) = some (pO 0 [.ref (ad 1 0 0), .ref (ad 2 0 0), .ref (ad 3 0 0), .ref (ad 4 0 0), va_rf (if σ.1 14 = 0 then none else some (ad 12 0 0)), IV (σ.1 0), .ref (ad 5 0 0), .ref (ad 6 0 0)]) from R_6.top) rfl dX1_person_49 ?_
    refine j_room (cl' := 7 + 1) (sl' := 96 + 4) (by omega) (by omega) ?_
    refine j2_new hke.1 (Or.inl (by decide)) fn_X1_56_X4 dX1_person_52 (fun a_52 h_52 n_52 e_52 => ?_)
    have z_7 : h_52 a_1 = some (pA 0 2 (uA (uA (fun _ => 0) 0 c) 1 36)) := by rw [e_52]; exact upH_old z_5 n_52
    have z_8 : h_52 a_52 = some (pO 4 [IV 0, IV 0, .null, IV 0]) := by rw [e_52]; exact upH_self _ _ _
    have fo_a_52 : ∀ k i j, live σ k i j → ad k i j ≠ a_52 := fun k i j hl => R_6.fresh n_52 hl
    have R_9 : Rel K h_52 o ad σ := R_6.other (fun b c hb => by rw [e_52]; exact upH_old hb n_52)
    refine j_dup (pc := 55) dX1_person_55 rfl ?_
    refine j_aload_n (pc := 56) dX1_person_56 rfl ?_
    refine j2_get fa_X1_16_X1 (show h_52 (o) = some (pO 0 [.ref (ad 1 0 0), .ref (ad 2 0 0), .ref (ad 3 0 0), .ref (ad 4 0 0), va_rf (if σ.1 14 = 0 then none else some (ad 12 0 0)), IV (σ.1 0), .ref (ad 5 0 0), .ref (ad 6 0 0)]) from R_9.top) rfl dX1_person_57 ?_
    refine j_callF (pc := 60) (xm := ⟨"java/util/List", "size", "()I"⟩) (l2_size (show h_52 (ad 2 0 0) = some (pL (rg (σ.1 9) (fun p => ad 7 p 0))) from R_9.at 2 0 0 ⟨rfl, rfl⟩)) (lw_F q155 q159 q161 q47 q163) hfe.1 (ci := 2) rfl rfl mdx_yJ2_size (RC.ofL (show h_52 (ad 2 0 0) = some (pL (rg (σ.1 9) (fun p => ad 7 p 0))) from R_9.at 2 0 0 ⟨rfl, rfl⟩)) (by decide) (by decide) rfl (Nat.le_of_ble_eq_true rfl) dX1_person_60 (qI.k (fun r_60 s_60 q_60 => ?_))
    obtain ⟨e1q_60, e2q_60⟩ := q_60
    subst s_60
    rw [rg_len (by omega)] at e1q_60
    subst r_60
    refine j_iload_n (pc := 65) dX1_person_65 rfl ?_
    refine j_aload_n (pc := 66) dX1_person_66 rfl ?_
    refine j2_get fa_X1_110_X1 (show h_52 (o) = some (pO 0 [.ref (ad 1 0 0), .ref (ad 2 0 0), .ref (ad 3 0 0), .ref (ad 4 0 0), va_rf (if σ.1 14 = 0 then none else some (ad 12 0 0)), IV (σ.1 0), .ref (ad 5 0 0), .ref (ad 6 0 0)]) from R_9.top) rfl dX1_person_67 ?_
    have n_10 : 0 ≤ σ.1 0 ∧ σ.1 0 ≤ 2100 := hB.1 0
    refine j_iload_n (pc := 70) dX1_person_70 rfl ?_
    refine j_room (cl' := 4 + 3) (sl' := 81 + 15) (by omega) (by omega) ?_
    refine j_callI (pc := 71) (c_pInit h_52 hke hfe hko5 a_52 (σ.1 9) v (σ.1 0) c z_8) (lw_meth q563) q64 q561 q562 rfl md_yX4_init (by decide) (by decide) rfl (Nat.le_of_ble_eq_true rfl) dX1_person_71 (qV.k (fun s_71 q_71 => ?_))
    obtain ⟨dl4, dw4, nl4, nw4, d1, d2, d3, zq4, zl4, zw4, k4⟩ := q_71
    have fo_dl : ∀ k i j, live σ k i j → ad k i j ≠ dl4 := fun k i j hl => R_9.fresh nl4 hl
    have fo_dw : ∀ k i j, live σ k i j → ad k i j ≠ dw4 := fun k i j hl => R_9.fresh nw4 hl
    have Rk : Rel K s_71 o ad σ := ⟨R_9.1, fun k i j hl => k4 _ _ (R_9.at k i j hl) (fo_a_52 k i j hl), R_9.2.2⟩
    refine j_room (cl' := 3 + 1) (sl' := 31 + 50) (by omega) (by omega) ?_
    refine j_callF (pc := 74) (xm := ⟨"java/util/List", "add", "(Ljava/lang/Object;)Z"⟩) (l2_add hke (show s_71 (ad 2 0 0) = some (pL (rg (σ.1 9) (fun p => ad 7 p 0))) from Rk.at 2 0 0 ⟨rfl, rfl⟩) hko4 (Or.inl ⟨4, _, zq4, by decide, rfl⟩) (fun z hz => by obtain ⟨i9, h9, rfl⟩ := mem_rg hz; exact Or.inl ⟨4, _, Rk.at 7 i9 0 ⟨h9, rfl⟩, by decide, rfl⟩) (by have h9 := rg_len (n := σ.1 9) (by omega) (fun s => ad 7 s 0); omega) 50 (by have h9 := rg_len (n := σ.1 9) (by omega) (fun s => ad 7 s 0); omega)) (lw_F q477 q480 q482 q47 q484) hfe.2.2.2.1 (ci := 2) rfl rfl mdx_yJ2_add (RC.ofL (show s_71 (ad 2 0 0) = some (pL (rg (σ.1 9) (fun p => ad 7 p 0))) from Rk.at 2 0 0 ⟨rfl, rfl⟩)) (by decide) (by decide) rfl (Nat.le_of_ble_eq_true rfl) dX1_person_74 (qI.k (fun r_74 s_74 q_74 => ?_))
    obtain ⟨e1q_74, e2q_74⟩ := q_74
    subst r_74
    obtain ⟨ad1, R1⟩ : ∃ ad1, Rel K s_74 o ad1 (sComes (setI (setA σ 7 (σ.1 9).toNat v) 9 (σ.1 9 + 1)) (σ.1 9) c) := ⟨_, Rk.person hI.2.1 (by omega) (by omega) hd0 (fun i hi => ⟨(hB.2 23 i).1, (hI.2.2.2.2.2.1 i hi).1⟩) fo_a_52 fo_dl fo_dw d1 d2 d3 (by rw [e2q_74, upH_ne (Ne.symm (fo_a_52 2 0 0 ⟨rfl, rfl⟩))]; exact zq4) (by rw [e2q_74, upH_ne (Ne.symm (fo_dl 2 0 0 ⟨rfl, rfl⟩))]; exact zl4) (by rw [e2q_74, upH_ne (Ne.symm (fo_dw 2 0 0 ⟨rfl, rfl⟩))]; exact zw4) (by rw [e2q_74]; exact upH_self _ _ _) (fun k i j hl hn => by rw [e2q_74, upH_ne (Rk.ne hl (show live σ 2 0 0 from ⟨rfl, rfl⟩) hn)])⟩
    refine j_pop (pc := 79) dX1_person_79 rfl ?_
    refine j_aload_n (pc := 80) dX1_person_80 rfl ?_
    refine j2_get fa_X1_16_X1 (show s_74 (o) = some (pO 0 [.ref (ad1 1 0 0), .ref (ad1 2 0 0), .ref (ad1 3 0 0), .ref (ad1 4 0 0), va_rf (if σ.1 14 = 0 then none else some (ad1 12 0 0)), IV (σ.1 0), .ref (ad1 5 0 0), .ref (ad1 6 0 0)]) from R1.top) rfl dX1_person_81 ?_
    refine j_callF (pc := 84) (xm := ⟨"java/util/List", "size", "()I"⟩) (l2_size (show s_74 (ad1 2 0 0) = some (pL (rg (σ.1 9 + 1) (fun p => ad1 7 p 0))) from R1.at 2 0 0 ⟨rfl, rfl⟩)) (lw_F q155 q159 q161 q47 q163) hfe.1 (ci := 2) rfl rfl mdx_yJ2_size (RC.ofL (show s_74 (ad1 2 0 0) = some (pL (rg (σ.1 9 + 1) (fun p => ad1 7 p 0))) from R1.at 2 0 0 ⟨rfl, rfl⟩)) (by decide) (by decide) rfl (Nat.le_of_ble_eq_true rfl) dX1_person_84 (qI.k (fun r_84 s_84 q_84 => ?_))
    obtain ⟨e1q_84, e2q_84⟩ := q_84
    subst s_84
    rw [rg_len (by omega)] at e1q_84
    subst r_84
    refine j_iconst (pc := 89) dX1_person_89 rfl ?_
    refine j_isub (pc := 90) dX1_person_90 ?_
    refine j_iret (pc := 91) rfl (hQ _ _ ?_) dX1_person_91
    exact ⟨by unfold t3; (repeat' split) <;> omega, by omega, ad1, R1⟩

