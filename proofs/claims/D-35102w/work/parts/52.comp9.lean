set_option maxRecDepth 100000
theorem pn_X10 : plainName RX10 = true := by decide
theorem fn_X10_7_J2 : FN RX10 7 2 3 [IV 0, .null, IV 0] := ⟨RJ2, TJ2, tyJ2, rfl, in_J2, tyJ2_ok, q783, q90, q47, fun j hj => by rcases (show j = 0 ∨ j = 1 ∨ j = 2 by omega) with rfl | rfl | rfl <;> rfl⟩
theorem fp_X10_10_X10 : FP RX10 10 8 0 (.object "java/util/List") true := ⟨RX10, TX10, 4, "BallotFoundry$Box", tyX10, rfl, in_X10, by decide, q785, Or.inl rfl, tyX10_ok, nmX10, rfl, rfl, fun _ => rfl⟩
theorem fp_X10_16_X10 : FP RX10 16 8 1 (.object "java/util/List") true := ⟨RX10, TX10, 4, "BallotFoundry$Box", tyX10, rfl, in_X10, by decide, q788, Or.inl rfl, tyX10_ok, nmX10, rfl, rfl, fun _ => rfl⟩
set_option maxHeartbeats 4000000 in
theorem c_boxInit {Γ : GG} {A : Nat → Prop} {K : KK} {l : Launch} (h : AL2) (hke : KE Γ A K) (q : Nat) (hq : h q = some (pO 8 [.null, .null, .null, IV 0])) : Ct Γ A (Rep2 Γ A K) l yX10_init (ws_ yX10_init cX10_init 1 none) 5 2 6 [.ref q] h (qV (fun (h' : AL2) => ∃ b1 b2, h b1 = none ∧ h b2 = none ∧ b1 ≠ b2 ∧ q ≠ b1 ∧ q ≠ b2 ∧ h' q = some (pO 8 [.ref b1, .ref b2, .null, IV 0]) ∧ h' b1 = some (pL []) ∧ h' b2 = some (pL []) ∧ ∀ b z, h b = some z → b ≠ q → h' b = some z)) X0 := by
  refine Ct.ofJ (own := RX10) (nm := "<init>") (lo := [some (.ref q)]) pn_X10 rfl rfl (List.forall_mem_cons.mpr ⟨rfl, (fun _ h => nomatch h)⟩) (Nat.le_of_ble_eq_true rfl) rfl ?_
  have hQ : ∀ (h' : AL2), (∃ b1 b2, h b1 = none ∧ h b2 = none ∧ b1 ≠ b2 ∧ q ≠ b1 ∧ q ≠ b2 ∧ h' q = some (pO 8 [.ref b1, .ref b2, .null, IV 0]) ∧ h' b1 = some (pL []) ∧ h' b2 = some (pL []) ∧ ∀ b z, h b = some z → b ≠ q → h' b = some z) → (qV (fun (h' : AL2) => ∃ b1 b2, h b1 = none ∧ h b2 = none ∧ b1 ≠ b2 ∧ q ≠ b1 ∧ q ≠ b2 ∧ h' q = some (pO 8 [.ref b1, .ref b2, .null, IV 0]) ∧ h' b1 = some (pL []) ∧ h' b2 = some (pL []) ∧ ∀ b z, h b = some z → b ≠ q → h' b = some z)) none h' := fun h' h => ⟨rfl, h⟩
  generalize (qV (fun (h' : AL2) => ∃ b1 b2, h b1 = none ∧ h b2 = none ∧ b1 ≠ b2 ∧ q ≠ b1 ∧ q ≠ b2 ∧ h' q = some (pO 8 [.ref b1, .ref b2, .null, IV 0]) ∧ h' b1 = some (pL []) ∧ h' b2 = some (pL []) ∧ ∀ b z, h b = some z → b ≠ q → h' b = some z)) = QP at hQ ⊢
  refine j_aload_n (pc := 0) dX10_init_0 rfl ?_
  refine j_objInit (pc := 1) q782 q87 q88 (by decide) (Nat.le_of_ble_eq_true rfl) dX10_init_1 ?_
  refine j_aload_n (pc := 4) dX10_init_4 rfl ?_
  refine j_room (cl' := 1 + 1) (sl' := 3 + 3) (by omega) (by omega) ?_
  refine j2_new hke.1 (Or.inr rfl) fn_X10_7_J2 dX10_init_5 (fun a_5 h_5 n_5 e_5 => ?_)
  have z_1 : h_5 q = some (pO 8 [.null, .null, .null, IV 0]) := by rw [e_5]; exact upH_old hq n_5
  have z_2 : h_5 a_5 = some (pO 2 [IV 0, .null, IV 0]) := by rw [e_5]; exact upH_self _ _ _
  refine j_dup (pc := 8) dX10_init_8 rfl ?_
  refine j_callI (pc := 9) (l2_init hke z_2) (lw_meth q93) q47 q784 q92 rfl md_yJ2_init (by decide) (by decide) rfl (Nat.le_of_ble_eq_true rfl) dX10_init_9 (qV.k (fun s_9 q_9 => ?_))
  have z_3 : s_9 q = some (pO 8 [.null, .null, .null, IV 0]) := by rw [q_9]; exact upH_k z_1 z_2 (by intro z; cases z)
  have z_4 : s_9 a_5 = some (pL ([])) := by rw [q_9]; exact upH_self _ _ _
  refine j2_putF rfl fp_X10_10_X10 z_3 (by decide) (Nat.le_of_ble_eq_true rfl) rfl rfl dX10_init_12 (fun h_12 e_12 => ?_)
  have z_5 : h_12 a_5 = some (pL ([])) := by rw [e_12]; exact upH_k z_4 z_3 (by intro z; cases z)
  have z_6 : h_12 q = some (pO 8 [.ref a_5, .null, .null, IV 0]) := by rw [e_12]; exact upH_self _ _ _
  refine j_aload_n (pc := 15) dX10_init_15 rfl ?_
  refine j_room (cl' := 0 + 1) (sl' := 0 + 3) (by omega) (by omega) ?_
  refine j2_new hke.1 (Or.inr rfl) fn_X10_7_J2 dX10_init_16 (fun a_16 h_16 n_16 e_16 => ?_)
  have z_7 : h_16 a_5 = some (pL ([])) := by rw [e_16]; exact upH_old z_5 n_16
  have z_8 : h_16 q = some (pO 8 [.ref a_5, .null, .null, IV 0]) := by rw [e_16]; exact upH_old z_6 n_16
  have z_9 : h_16 a_16 = some (pO 2 [IV 0, .null, IV 0]) := by rw [e_16]; exact upH_self _ _ _
  refine j_dup (pc := 19) dX10_init_19 rfl ?_
  refine j_callI (pc := 20) (l2_init hke z_9) (lw_meth q93) q47 q784 q92 rfl md_yJ2_init (by decide) (by decide) rfl (Nat.le_of_ble_eq_true rfl) dX10_init_20 (qV.k (fun s_20 q_20 => ?_))
  have z_10 : s_20 a_5 = some (pL ([])) := by rw [q_20]; exact upH_k z_7 z_9 (by intro z; cases z)
  have z_11 : s_20 q = some (pO 8 [.ref a_5, .null, .null, IV 0]) := by rw [q_20]; exact upH_k z_8 z_9 (by intro z; cases z)
  have z_12 : s_20 a_16 = some (pL ([])) := by rw [q_20]; exact upH_self _ _ _
  refine j2_putF rfl fp_X10_16_X10 z_11 (by decide) (Nat.le_of_ble_eq_true rfl) rfl rfl dX10_init_23 (fun h_23 e_23 => ?_)
  have z_13 : h_23 a_5 = some (pL ([])) := by rw [e_23]; exact upH_k z_10 z_11 (by intro z; cases z)
  have z_14 : h_23 a_16 = some (pL ([])) := by rw [e_23]; exact upH_k z_12 z_11 (by intro z; cases z)
  have z_15 : h_23 q = some (pO 8 [.ref a_5, .ref a_16, .null, IV 0]) := by rw [e_23]; exact upH_self _ _ _
  refine j_vret (pc := 26) rfl (hQ _ ?_) dX10_init_26
  have w1 : q ≠ a_5 := fresh_ne hq n_5
  have w2 : q ≠ a_16 := fun e => by rw [e_12, ← e, upH_self] at n_16; cases n_16
  have w3 : a_5 ≠ a_16 := fun e => by rw [e_12, ← e, upH_ne (Ne.symm w1), q_9, upH_self] at n_16; cases n_16
  have w4 : h a_16 = none := by rw [e_12, upH_ne (Ne.symm w2), q_9, upH_ne (Ne.symm w3), e_5, upH_ne (Ne.symm w3)] at n_16; exact n_16
  refine ⟨a_5, a_16, n_5, w4, w3, w1, w2, z_15, z_13, z_14, fun b z hb hbq => ?_⟩
  have y1 : b ≠ a_5 := fun e => by rw [e, n_5] at hb; cases hb
  have y2 : b ≠ a_16 := fun e => by rw [e, w4] at hb; cases hb
  rw [e_23, upH_ne hbq, q_20, upH_ne y2, e_16, upH_ne y2, e_12, upH_ne hbq, q_9, upH_ne y1, e_5, upH_ne y1]
  exact hb

theorem pn_X11 : plainName RX11 = true := by decide
theorem fp_X11_9_X11 : FP RX11 9 9 2 (.int) false := ⟨RX11, TX11, 3, "BallotFoundry$Envelope", tyX11, rfl, in_X11, by decide, q891, Or.inl rfl, tyX11_ok, nmX11, rfl, rfl, fun h => nomatch h⟩
theorem fp_X11_15_X11 : FP RX11 15 9 0 (.object "BallotFoundry$Person") true := ⟨RX11, TX11, 3, "BallotFoundry$Envelope", tyX11, rfl, in_X11, by decide, q886, Or.inl rfl, tyX11_ok, nmX11, rfl, rfl, fun _ => rfl⟩
theorem fp_X11_19_X11 : FP RX11 19 9 1 (.int) true := ⟨RX11, TX11, 3, "BallotFoundry$Envelope", tyX11, rfl, in_X11, by decide, q889, Or.inl rfl, tyX11_ok, nmX11, rfl, rfl, fun _ => rfl⟩
set_option maxHeartbeats 4000000 in
theorem c_enInit {Γ : GG} {A : Nat → Prop} {K : KK} {l : Launch} (h : AL2) (q pa : Nat) (v : Int) (hq : h q = some (pO 9 [.null, IV 0, IV 0])) : Ct Γ A (Rep2 Γ A K) l yX11_init (ws_ yX11_init cX11_init 3 none) 2 0 0 [.ref q, .ref pa, IV v] h (qV (fun (h' : AL2) => h' = upH h q (pO 9 [.ref pa, IV v, IV 0]))) X0 := by
  refine Ct.ofJ (own := RX11) (nm := "<init>") (lo := [some (.ref q), some (.ref pa), some (IV v)]) pn_X11 rfl rfl (List.forall_mem_cons.mpr ⟨rfl, (List.forall_mem_cons.mpr ⟨rfl, (List.forall_mem_cons.mpr ⟨rfl, (fun _ h => nomatch h)⟩)⟩)⟩) (Nat.le_of_ble_eq_true rfl) rfl ?_
  have hQ : ∀ (h' : AL2), (h' = upH h q (pO 9 [.ref pa, IV v, IV 0])) → (qV (fun (h' : AL2) => h' = upH h q (pO 9 [.ref pa, IV v, IV 0]))) none h' := fun h' h => ⟨rfl, h⟩
  generalize (qV (fun (h' : AL2) => h' = upH h q (pO 9 [.ref pa, IV v, IV 0]))) = QP at hQ ⊢
  refine j_aload_n (pc := 0) dX11_init_0 rfl ?_
  refine j_objInit (pc := 1) q885 q87 q88 (by decide) (Nat.le_of_ble_eq_true rfl) dX11_init_1 ?_
  refine j_aload_n (pc := 4) dX11_init_4 rfl ?_
  refine j_iconst (pc := 5) dX11_init_5 rfl ?_
  refine j2_put fp_X11_9_X11 hq (by decide) (Nat.le_of_ble_eq_true rfl) rfl rfl dX11_init_6 (fun h_6 e_6 => ?_)
  have z_1 : h_6 q = some (pO 9 [.null, IV 0, IV 0]) := by rw [e_6]; exact upH_self _ _ _
  refine j_aload_n (pc := 9) dX11_init_9 rfl ?_
  refine j_aload_n (pc := 10) dX11_init_10 rfl ?_
  refine j2_putF rfl fp_X11_15_X11 z_1 (by decide) (Nat.le_of_ble_eq_true rfl) rfl rfl dX11_init_11 (fun h_11 e_11 => ?_)
  have z_2 : h_11 q = some (pO 9 [.ref pa, IV 0, IV 0]) := by rw [e_11]; exact upH_self _ _ _
  refine j_aload_n (pc := 14) dX11_init_14 rfl ?_
  refine j_iload_n (pc := 15) dX11_init_15 rfl ?_
  refine j2_putF rfl fp_X11_19_X11 z_2 (by decide) (Nat.le_of_ble_eq_true rfl) rfl rfl dX11_init_16 (fun h_16 e_16 => ?_)
  have z_3 : h_16 q = some (pO 9 [.ref pa, IV v, IV 0]) := by rw [e_16]; exact upH_self _ _ _
  refine j_vret (pc := 19) rfl (hQ _ ?_) dX11_init_19
  rw [e_16, e_11, upH_upH, e_6, upH_upH]; rfl

