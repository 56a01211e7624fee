set_option maxRecDepth 100000
theorem six_ne {F : Nat → Nat} (d12_13 : F 12 ≠ F 13) (d12_14 : F 12 ≠ F 14) (d12_15 : F 12 ≠ F 15) (d12_16 : F 12 ≠ F 16) (d12_17 : F 12 ≠ F 17) (d12_18 : F 12 ≠ F 18) (d13_14 : F 13 ≠ F 14) (d13_15 : F 13 ≠ F 15) (d13_16 : F 13 ≠ F 16) (d13_17 : F 13 ≠ F 17) (d13_18 : F 13 ≠ F 18) (d14_15 : F 14 ≠ F 15) (d14_16 : F 14 ≠ F 16) (d14_17 : F 14 ≠ F 17) (d14_18 : F 14 ≠ F 18) (d15_16 : F 15 ≠ F 16) (d15_17 : F 15 ≠ F 17) (d15_18 : F 15 ≠ F 18) (d16_17 : F 16 ≠ F 17) (d16_18 : F 16 ≠ F 18) (d17_18 : F 17 ≠ F 18) : ∀ i j, 12 ≤ i → i < j → j ≤ 18 → F i ≠ F j := by
  intro i j h1 h2 h3
  have hi : i = 12 ∨ i = 13 ∨ i = 14 ∨ i = 15 ∨ i = 16 ∨ i = 17 := by omega
  have hj : j = 13 ∨ j = 14 ∨ j = 15 ∨ j = 16 ∨ j = 17 ∨ j = 18 := by omega
  rcases hi with rfl | rfl | rfl | rfl | rfl | rfl <;> rcases hj with rfl | rfl | rfl | rfl | rfl | rfl <;> first | assumption | (exfalso; omega)
theorem old_none {h g : AL2} {a q : Nat} (hk : a ≠ q ∧ ∀ b z, h b = some z → b ≠ q → g b = some z) (hg : g a = none) : h a = none := by
  cases e : h a with
  | none => rfl
  | some z => rw [hk.2 a z e hk.1] at hg; cases hg

theorem fp_X9_9_X9 : FP RX9 9 7 3 (.array .int) true := ⟨RX9, TX9, 10, "BallotFoundry$Election", tyX9, rfl, in_X9, by decide, q718, Or.inl rfl, tyX9_ok, nmX9, rfl, rfl, fun _ => rfl⟩
theorem fp_X9_15_X9 : FP RX9 15 7 4 (.array .int) true := ⟨RX9, TX9, 10, "BallotFoundry$Election", tyX9, rfl, in_X9, by decide, q721, Or.inl rfl, tyX9_ok, nmX9, rfl, rfl, fun _ => rfl⟩
theorem fp_X9_18_X9 : FP RX9 18 7 5 (.array .boolean) true := ⟨RX9, TX9, 10, "BallotFoundry$Election", tyX9, rfl, in_X9, by decide, q723, Or.inl rfl, tyX9_ok, nmX9, rfl, rfl, fun _ => rfl⟩
theorem fn_X9_22_J2 : FN RX9 22 2 3 [IV 0, .null, IV 0] := ⟨RJ2, TJ2, tyJ2, rfl, in_J2, tyJ2_ok, q710, q90, q47, fun j hj => by rcases (show j = 0 ∨ j = 1 ∨ j = 2 by omega) with rfl | rfl | rfl <;> rfl⟩
theorem fp_X9_25_X9 : FP RX9 25 7 6 (.object "java/util/List") true := ⟨RX9, TX9, 10, "BallotFoundry$Election", tyX9, rfl, in_X9, by decide, q725, Or.inl rfl, tyX9_ok, nmX9, rfl, rfl, fun _ => rfl⟩
theorem fp_X9_29_X9 : FP RX9 29 7 7 (.object "java/util/List") true := ⟨RX9, TX9, 10, "BallotFoundry$Election", tyX9, rfl, in_X9, by decide, q728, Or.inl rfl, tyX9_ok, nmX9, rfl, rfl, fun _ => rfl⟩
theorem fp_X9_32_X9 : FP RX9 32 7 8 (.object "java/util/List") true := ⟨RX9, TX9, 10, "BallotFoundry$Election", tyX9, rfl, in_X9, by decide, q730, Or.inl rfl, tyX9_ok, nmX9, rfl, rfl, fun _ => rfl⟩
theorem fp_X9_35_X9 : FP RX9 35 7 9 (.int) false := ⟨RX9, TX9, 10, "BallotFoundry$Election", tyX9, rfl, in_X9, by decide, q732, Or.inl rfl, tyX9_ok, nmX9, rfl, rfl, fun h => nomatch h⟩
theorem fp_X9_39_X9 : FP RX9 39 7 0 (.int) true := ⟨RX9, TX9, 10, "BallotFoundry$Election", tyX9, rfl, in_X9, by decide, q712, Or.inl rfl, tyX9_ok, nmX9, rfl, rfl, fun _ => rfl⟩
theorem fp_X9_42_X9 : FP RX9 42 7 1 (.int) true := ⟨RX9, TX9, 10, "BallotFoundry$Election", tyX9, rfl, in_X9, by decide, q714, Or.inl rfl, tyX9_ok, nmX9, rfl, rfl, fun _ => rfl⟩
theorem fp_X9_45_X9 : FP RX9 45 7 2 (.boolean) true := ⟨RX9, TX9, 10, "BallotFoundry$Election", tyX9, rfl, in_X9, by decide, q716, Or.inl rfl, tyX9_ok, nmX9, rfl, rfl, fun _ => rfl⟩
set_option maxHeartbeats 4000000 in
theorem c_elInit {Γ : GG} {A : Nat → Prop} {K : KK} {l : Launch} (h : AL2) (hke : KE Γ A K) (q : Nat) (dy m v : Int) (hv : v = 0 ∨ v = 1) (g18 g20 g22 : Nat → Int) (hg18 : ∀ j : Nat, j < 5 → g18 j = 0) (hg20 : ∀ j : Nat, j < 20 → g20 j = -1) (hg22 : ∀ j : Nat, j < 20 → g22 j = 0) (hq : h q = some (pO 7 [IV 0, IV 0, IV 0, .null, .null, .null, .null, .null, .null, IV 0])) : Ct Γ A (Rep2 Γ A K) l yX9_init (ws_ yX9_init cX9_init 5 none) 6 6 70 [.ref q, IV dy, IV m, IV v] h (qV (fun (h' : AL2) => ∃ F : Nat → Nat, F 12 = q ∧ (∀ i j, 12 ≤ i → i < j → j ≤ 18 → F i ≠ F j) ∧ (∀ k, 13 ≤ k → k ≤ 18 → h (F k) = none) ∧ h' (F 12) = some (pO 7 [IV dy, IV m, IV v, .ref (F 13), .ref (F 14), .ref (F 15), .ref (F 16), .ref (F 17), .ref (F 18), IV 1]) ∧ h' (F 13) = some (pA 0 5 g18) ∧ h' (F 14) = some (pA 0 20 g20) ∧ h' (F 15) = some (pA 1 20 g22) ∧ h' (F 16) = some (pL []) ∧ h' (F 17) = some (pL []) ∧ h' (F 18) = some (pL []) ∧ ∀ b z, h b = some z → b ≠ q → h' b = some z)) X0 := by
  refine Ct.ofJ (own := RX9) (nm := "<init>") (lo := [some (.ref q), some (IV dy), some (IV m), some (IV v), none]) pn_X9 rfl rfl (List.forall_mem_cons.mpr ⟨rfl, (List.forall_mem_cons.mpr ⟨rfl, (List.forall_mem_cons.mpr ⟨rfl, (List.forall_mem_cons.mpr ⟨rfl, (fun _ h => nomatch h)⟩)⟩)⟩)⟩) (Nat.le_of_ble_eq_true rfl) rfl ?_
  have hQ : ∀ (h' : AL2), (∃ F : Nat → Nat, F 12 = q ∧ (∀ i j, 12 ≤ i → i < j → j ≤ 18 → F i ≠ F j) ∧ (∀ k, 13 ≤ k → k ≤ 18 → h (F k) = none) ∧ h' (F 12) = some (pO 7 [IV dy, IV m, IV v, .ref (F 13), .ref (F 14), .ref (F 15), .ref (F 16), .ref (F 17), .ref (F 18), IV 1]) ∧ h' (F 13) = some (pA 0 5 g18) ∧ h' (F 14) = some (pA 0 20 g20) ∧ h' (F 15) = some (pA 1 20 g22) ∧ h' (F 16) = some (pL []) ∧ h' (F 17) = some (pL []) ∧ h' (F 18) = some (pL []) ∧ ∀ b z, h b = some z → b ≠ q → h' b = some z) → (qV (fun (h' : AL2) => ∃ F : Nat → Nat, F 12 = q ∧ (∀ i j, 12 ≤ i → i < j → j ≤ 18 → F i ≠ F j) ∧ (∀ k, 13 ≤ k → k ≤ 18 → h (F k) = none) ∧ h' (F 12) = some (pO 7 [IV dy, IV m, IV v, .ref (F 13), .ref (F 14), .ref (F 15), .ref (F 16), .ref (F 17), .ref (F 18), IV 1]) ∧ h' (F 13) = some (pA 0 5 g18) ∧ h' (F 14) = some (pA 0 20 g20) ∧ h' (F 15) = some (pA 1 20 g22) ∧ h' (F 16) = some (pL []) ∧ h' (F 17) = some (pL []) ∧ h' (F 18) = some (pL []) ∧ ∀ b z, h b = some z → b ≠ q → h' b = some z)) none h' := fun h' h => ⟨rfl, h⟩
  generalize (qV (fun (h' : AL2) => ∃ F : Nat → Nat, F 12 = q ∧ (∀ i j, 12 ≤ i → i < j → j ≤ 18 → F i ≠ F j) ∧ (∀ k, 13 ≤ k → k ≤ 18 → h (F k) = none) ∧ h' (F 12) = some (pO 7 [IV dy, IV m, IV v, .ref (F 13), .ref (F 14), .ref (F 15), .ref (F 16), .ref (F 17), .ref (F 18), IV 1]) ∧ h' (F 13) = some (pA 0 5 g18) ∧ h' (F 14) = some (pA 0 20 g20) ∧ h' (F 15) = some (pA 1 20 g22) ∧ h' (F 16) = some (pL []) ∧ h' (F 17) = some (pL []) ∧ h' (F 18) = some (pL []) ∧ ∀ b z, h b = some z → b ≠ q → h' b = some z)) = QP at hQ ⊢
  have hk0 : ∀ b z, h b = some z → b ≠ q → h b = some z := fun _ _ hb _ => hb
  refine j_aload_n (pc := 0) dX9_init_0 rfl ?_
  refine j_objInit (pc := 1) q709 q87 q88 (by decide) (Nat.le_of_ble_eq_true rfl) dX9_init_1 ?_
  refine j_aload_n (pc := 4) dX9_init_4 rfl ?_
  refine j_iconst (pc := 5) dX9_init_5 rfl ?_
  refine j_room (cl' := 5 + 1) (sl' := 65 + 5) (by omega) (by omega) ?_
  refine j2_newa (i := 5) (N := 5) (atype := .int) hke.1 (Or.inl ⟨rfl, rfl⟩) q141 (by omega) (by omega) (by omega) dX9_init_6 (fun a_6 h_6 n_6 e_6 => ?_)
  have hk6 : a_6 ≠ q ∧ ∀ b z, h b = some z → b ≠ q → h b = some z := ⟨Ne.symm (fresh_ne hq n_6), hk0⟩
  have z_1 : h_6 q = some (pO 7 [IV 0, IV 0, IV 0, .null, .null, .null, .null, .null, .null, IV 0]) := by rw [e_6]; exact upH_old hq n_6
  have ne_2 : q ≠ a_6 := fresh_ne hq n_6
  have z_3 : h_6 a_6 = some (pA 0 5 (fun _ => 0)) := by rw [e_6]; exact upH_self _ _ _
  have hk_4 : ∀ b z, h b = some z → b ≠ q → h_6 b = some z := fun b z hb hbq => by rw [e_6]; exact upH_old (hk0 b z hb hbq) n_6
  refine j2_putF rfl fp_X9_9_X9 z_1 (by decide) (Nat.le_of_ble_eq_true rfl) rfl rfl dX9_init_8 (fun h_8 e_8 => ?_)
  have z_5 : h_8 a_6 = some (pA 0 5 (fun _ => 0)) := by rw [e_8]; exact upH_d z_3 (Ne.symm ne_2)
  have z_6 : h_8 q = some (pO 7 [IV 0, IV 0, IV 0, .ref a_6, .null, .null, .null, .null, .null, IV 0]) := by rw [e_8]; exact upH_self _ _ _
  have hk_7 : ∀ b z, h b = some z → b ≠ q → h_8 b = some z := fun b z hb hbq => by rw [e_8, upH_ne hbq]; exact hk_4 b z hb hbq
  refine j_aload_n (pc := 11) dX9_init_11 rfl ?_
  refine j_bipush (pc := 12) (a := 20) dX9_init_12 (by decide) ?_
  refine j_room (cl' := 4 + 1) (sl' := 45 + 20) (by omega) (by omega) ?_
  refine j2_newa (i := 20) (N := 20) (atype := .int) hke.1 (Or.inl ⟨rfl, rfl⟩) q141 (by omega) (by omega) (by omega) dX9_init_14 (fun a_14 h_14 n_14 e_14 => ?_)
  have hk14 : a_14 ≠ q ∧ ∀ b z, h b = some z → b ≠ q → h_8 b = some z := ⟨Ne.symm (fresh_ne z_6 n_14), hk_7⟩
  have z_8 : h_14 a_6 = some (pA 0 5 (fun _ => 0)) := by rw [e_14]; exact upH_old z_5 n_14
  have ne_9 : a_6 ≠ a_14 := fresh_ne z_5 n_14
  have z_10 : h_14 q = some (pO 7 [IV 0, IV 0, IV 0, .ref a_6, .null, .null, .null, .null, .null, IV 0]) := by rw [e_14]; exact upH_old z_6 n_14
  have ne_11 : q ≠ a_14 := fresh_ne z_6 n_14
  have z_12 : h_14 a_14 = some (pA 0 20 (fun _ => 0)) := by rw [e_14]; exact upH_self _ _ _
  have hk_13 : ∀ b z, h b = some z → b ≠ q → h_14 b = some z := fun b z hb hbq => by rw [e_14]; exact upH_old (hk_7 b z hb hbq) n_14
  refine j2_putF rfl fp_X9_15_X9 z_10 (by decide) (Nat.le_of_ble_eq_true rfl) rfl rfl dX9_init_16 (fun h_16 e_16 => ?_)
  have z_14 : h_16 a_6 = some (pA 0 5 (fun _ => 0)) := by rw [e_16]; exact upH_d z_8 (Ne.symm ne_2)
  have z_15 : h_16 a_14 = some (pA 0 20 (fun _ => 0)) := by rw [e_16]; exact upH_d z_12 (Ne.symm ne_11)
  have z_16 : h_16 q = some (pO 7 [IV 0, IV 0, IV 0, .ref a_6, .ref a_14, .null, .null, .null, .null, IV 0]) := by rw [e_16]; exact upH_self _ _ _
  have hk_17 : ∀ b z, h b = some z → b ≠ q → h_16 b = some z := fun b z hb hbq => by rw [e_16, upH_ne hbq]; exact hk_13 b z hb hbq
  refine j_aload_n (pc := 19) dX9_init_19 rfl ?_
  refine j_bipush (pc := 20) (a := 20) dX9_init_20 (by decide) ?_
  refine j_room (cl' := 3 + 1) (sl' := 25 + 20) (by omega) (by omega) ?_
  refine j2_newa (i := 20) (N := 20) (atype := .boolean) hke.1 (Or.inr (Or.inl ⟨rfl, rfl⟩)) q115 (by omega) (by omega) (by omega) dX9_init_22 (fun a_22 h_22 n_22 e_22 => ?_)
  have hk22 : a_22 ≠ q ∧ ∀ b z, h b = some z → b ≠ q → h_16 b = some z := ⟨Ne.symm (fresh_ne z_16 n_22), hk_17⟩
  have z_18 : h_22 a_6 = some (pA 0 5 (fun _ => 0)) := by rw [e_22]; exact upH_old z_14 n_22
  have ne_19 : a_6 ≠ a_22 := fresh_ne z_14 n_22
  have z_20 : h_22 a_14 = some (pA 0 20 (fun _ => 0)) := by rw [e_22]; exact upH_old z_15 n_22
  have ne_21 : a_14 ≠ a_22 := fresh_ne z_15 n_22
  have z_22 : h_22 q = some (pO 7 [IV 0, IV 0, IV 0, .ref a_6, .ref a_14, .null, .null, .null, .null, IV 0]) := by rw [e_22]; exact upH_old z_16 n_22
  have ne_23 : q ≠ a_22 := fresh_ne z_16 n_22
  have z_24 : h_22 a_22 = some (pA 1 20 (fun _ => 0)) := by rw [e_22]; exact upH_self _ _ _
  have hk_25 : ∀ b z, h b = some z → b ≠ q → h_22 b = some z := fun b z hb hbq => by rw [e_22]; exact upH_old (hk_17 b z hb hbq) n_22
  refine j2_putF rfl fp_X9_18_X9 z_22 (by decide) (Nat.le_of_ble_eq_true rfl) rfl rfl dX9_init_24 (fun h_24 e_24 => ?_)
  have z_26 : h_24 a_6 = some (pA 0 5 (fun _ => 0)) := by rw [e_24]; exact upH_d z_18 (Ne.symm ne_2)
  have z_27 : h_24 a_14 = some (pA 0 20 (fun _ => 0)) := by rw [e_24]; exact upH_d z_20 (Ne.symm ne_11)
  have z_28 : h_24 a_22 = some (pA 1 20 (fun _ => 0)) := by rw [e_24]; exact upH_d z_24 (Ne.symm ne_23)
  have z_29 : h_24 q = some (pO 7 [IV 0, IV 0, IV 0, .ref a_6, .ref a_14, .ref a_22, .null, .null, .null, IV 0]) := by rw [e_24]; exact upH_self _ _ _
  have hk_30 : ∀ b z, h b = some z → b ≠ q → h_24 b = some z := fun b z hb hbq => by rw [e_24, upH_ne hbq]; exact hk_25 b z hb hbq
  refine j_aload_n (pc := 27) dX9_init_27 rfl ?_
  refine j_room (cl' := 2 + 1) (sl' := 22 + 3) (by omega) (by omega) ?_
  refine j2_new hke.1 (Or.inr rfl) fn_X9_22_J2 dX9_init_28 (fun a_28 h_28 n_28 e_28 => ?_)
  have hk28 : a_28 ≠ q ∧ ∀ b z, h b = some z → b ≠ q → h_24 b = some z := ⟨Ne.symm (fresh_ne z_29 n_28), hk_30⟩
  have z_31 : h_28 a_6 = some (pA 0 5 (fun _ => 0)) := by rw [e_28]; exact upH_old z_26 n_28
  have ne_32 : a_6 ≠ a_28 := fresh_ne z_26 n_28
  have z_33 : h_28 a_14 = some (pA 0 20 (fun _ => 0)) := by rw [e_28]; exact upH_old z_27 n_28
  have ne_34 : a_14 ≠ a_28 := fresh_ne z_27 n_28
  have z_35 : h_28 a_22 = some (pA 1 20 (fun _ => 0)) := by rw [e_28]; exact upH_old z_28 n_28
  have ne_36 : a_22 ≠ a_28 := fresh_ne z_28 n_28
  have z_37 : h_28 q = some (pO 7 [IV 0, IV 0, IV 0, .ref a_6, .ref a_14, .ref a_22, .null, .null, .null, IV 0]) := by rw [e_28]; exact upH_old z_29 n_28
  have ne_38 : q ≠ a_28 := fresh_ne z_29 n_28
  have z_39 : h_28 a_28 = some (pO 2 [IV 0, .null, IV 0]) := by rw [e_28]; exact upH_self _ _ _
  have hk_40 : ∀ b z, h b = some z → b ≠ q → h_28 b = some z := fun b z hb hbq => by rw [e_28]; exact upH_old (hk_30 b z hb hbq) n_28
  refine j_dup (pc := 31) dX9_init_31 rfl ?_
  refine j_callI (pc := 32) (l2_init hke z_39) (lw_meth q93) q47 q711 q92 rfl md_yJ2_init (by decide) (by decide) rfl (Nat.le_of_ble_eq_true rfl) dX9_init_32 (qV.k (fun s_32 q_32 => ?_))
  have z_41 : s_32 a_6 = some (pA 0 5 (fun _ => 0)) := by rw [q_32]; exact upH_d z_31 ne_32
  have z_42 : s_32 a_14 = some (pA 0 20 (fun _ => 0)) := by rw [q_32]; exact upH_d z_33 ne_34
  have z_43 : s_32 a_22 = some (pA 1 20 (fun _ => 0)) := by rw [q_32]; exact upH_d z_35 ne_36
  have z_44 : s_32 q = some (pO 7 [IV 0, IV 0, IV 0, .ref a_6, .ref a_14, .ref a_22, .null, .null, .null, IV 0]) := by rw [q_32]; exact upH_d z_37 ne_38
  have z_45 : s_32 a_28 = some (pL ([])) := by rw [q_32]; exact upH_self _ _ _
  have hk_46 : ∀ b z, h b = some z → b ≠ q → s_32 b = some z := fun b z hb hbq => by rw [q_32, upH_ne (fun y => by rw [y, old_none hk28 n_28] at hb; cases hb)]; exact hk_40 b z hb hbq
  refine j2_putF rfl fp_X9_25_X9 z_44 (by decide) (Nat.le_of_ble_eq_true rfl) rfl rfl dX9_init_35 (fun h_35 e_35 => ?_)
  have z_47 : h_35 a_6 = some (pA 0 5 (fun _ => 0)) := by rw [e_35]; exact upH_d z_41 (Ne.symm ne_2)
  have z_48 : h_35 a_14 = some (pA 0 20 (fun _ => 0)) := by rw [e_35]; exact upH_d z_42 (Ne.symm ne_11)
  have z_49 : h_35 a_22 = some (pA 1 20 (fun _ => 0)) := by rw [e_35]; exact upH_d z_43 (Ne.symm ne_23)
  have z_50 : h_35 a_28 = some (pL ([])) := by rw [e_35]; exact upH_d z_45 (Ne.symm ne_38)
  have z_51 : h_35 q = some (pO 7 [IV 0, IV 0, IV 0, .ref a_6, .ref a_14, .ref a_22, .ref a_28, .null, .null, IV 0]) := by rw [e_35]; exact upH_self _ _ _
  have hk_52 : ∀ b z, h b = some z → b ≠ q → h_35 b = some z := fun b z hb hbq => by rw [e_35, upH_ne hbq]; exact hk_46 b z hb hbq
  refine j_aload_n (pc := 38) dX9_init_38 rfl ?_
  refine j_room (cl' := 1 + 1) (sl' := 19 + 3) (by omega) (by omega) ?_
  refine j2_new hke.1 (Or.inr rfl) fn_X9_22_J2 dX9_init_39 (fun a_39 h_39 n_39 e_39 => ?_)
  have hk39 : a_39 ≠ q ∧ ∀ b z, h b = some z → b ≠ q → h_35 b = some z := ⟨Ne.symm (fresh_ne z_51 n_39), hk_52⟩
  have z_53 : h_39 a_6 = some (pA 0 5 (fun _ => 0)) := by rw [e_39]; exact upH_old z_47 n_39
  have ne_54 : a_6 ≠ a_39 := fresh_ne z_47 n_39
  have z_55 : h_39 a_14 = some (pA 0 20 (fun _ => 0)) := by rw [e_39]; exact upH_old z_48 n_39
  have ne_56 : a_14 ≠ a_39 := fresh_ne z_48 n_39
  have z_57 : h_39 a_22 = some (pA 1 20 (fun _ => 0)) := by rw [e_39]; exact upH_old z_49 n_39
  have ne_58 : a_22 ≠ a_39 := fresh_ne z_49 n_39
  have z_59 : h_39 a_28 = some (pL ([])) := by rw [e_39]; exact upH_old z_50 n_39
  have ne_60 : a_28 ≠ a_39 := fresh_ne z_50 n_39
  have z_61 : h_39 q = some (pO 7 [IV 0, IV 0, IV 0, .ref a_6, .ref a_14, .ref a_22, .ref a_28, .null, .null, IV 0]) := by rw [e_39]; exact upH_old z_51 n_39
  have ne_62 : q ≠ a_39 := fresh_ne z_51 n_39
  have z_63 : h_39 a_39 = some (pO 2 [IV 0, .null, IV 0]) := by rw [e_39]; exact upH_self _ _ _
  have hk_64 : ∀ b z, h b = some z → b ≠ q → h_39 b = some z := fun b z hb hbq => by rw [e_39]; exact upH_old (hk_52 b z hb hbq) n_39
  refine j_dup (pc := 42) dX9_init_42 rfl ?_
  refine j_callI (pc := 43) (l2_init hke z_63) (lw_meth q93) q47 q711 q92 rfl md_yJ2_init (by decide) (by decide) rfl (Nat.le_of_ble_eq_true rfl) dX9_init_43 (qV.k (fun s_43 q_43 => ?_))
  have z_65 : s_43 a_6 = some (pA 0 5 (fun _ => 0)) := by rw [q_43]; exact upH_d z_53 ne_54
  have z_66 : s_43 a_14 = some (pA 0 20 (fun _ => 0)) := by rw [q_43]; exact upH_d z_55 ne_56
  have z_67 : s_43 a_22 = some (pA 1 20 (fun _ => 0)) := by rw [q_43]; exact upH_d z_57 ne_58
  have z_68 : s_43 a_28 = some (pL ([])) := by rw [q_43]; exact upH_d z_59 ne_60
  have z_69 : s_43 q = some (pO 7 [IV 0, IV 0, IV 0, .ref a_6, .ref a_14, .ref a_22, .ref a_28, .null, .null, IV 0]) := by rw [q_43]; exact upH_d z_61 ne_62
  have z_70 : s_43 a_39 = some (pL ([])) := by rw [q_43]; exact upH_self _ _ _
  have hk_71 : ∀ b z, h b = some z → b ≠ q → s_43 b = some z := fun b z hb hbq => by rw [q_43, upH_ne (fun y => by rw [y, old_none hk39 n_39] at hb; cases hb)]; exact hk_64 b z hb hbq
  refine j2_putF rfl fp_X9_29_X9 z_69 (by decide) (Nat.le_of_ble_eq_true rfl) rfl rfl dX9_init_46 (fun h_46 e_46 => ?_)
  have z_72 : h_46 a_6 = some (pA 0 5 (fun _ => 0)) := by rw [e_46]; exact upH_d z_65 (Ne.symm ne_2)
  have z_73 : h_46 a_14 = some (pA 0 20 (fun _ => 0)) := by rw [e_46]; exact upH_d z_66 (Ne.symm ne_11)
  have z_74 : h_46 a_22 = some (pA 1 20 (fun _ => 0)) := by rw [e_46]; exact upH_d z_67 (Ne.symm ne_23)
  have z_75 : h_46 a_28 = some (pL ([])) := by rw [e_46]; exact upH_d z_68 (Ne.symm ne_38)
  have z_76 : h_46 a_39 = some (pL ([])) := by rw [e_46]; exact upH_d z_70 (Ne.symm ne_62)
  have z_77 : h_46 q = some (pO 7 [IV 0, IV 0, IV 0, .ref a_6, .ref a_14, .ref a_22, .ref a_28, .ref a_39, .null, IV 0]) := by rw [e_46]; exact upH_self _ _ _
  have hk_78 : ∀ b z, h b = some z → b ≠ q → h_46 b = some z := fun b z hb hbq => by rw [e_46, upH_ne hbq]; exact hk_71 b z hb hbq
  refine j_aload_n (pc := 49) dX9_init_49 rfl ?_
  refine j_room (cl' := 0 + 1) (sl' := 16 + 3) (by omega) (by omega) ?_
  refine j2_new hke.1 (Or.inr rfl) fn_X9_22_J2 dX9_init_50 (fun a_50 h_50 n_50 e_50 => ?_)
  have hk50 : a_50 ≠ q ∧ ∀ b z, h b = some z → b ≠ q → h_46 b = some z := ⟨Ne.symm (fresh_ne z_77 n_50), hk_78⟩
  have z_79 : h_50 a_6 = some (pA 0 5 (fun _ => 0)) := by rw [e_50]; exact upH_old z_72 n_50
  have ne_80 : a_6 ≠ a_50 := fresh_ne z_72 n_50
  have z_81 : h_50 a_14 = some (pA 0 20 (fun _ => 0)) := by rw [e_50]; exact upH_old z_73 n_50
  have ne_82 : a_14 ≠ a_50 := fresh_ne z_73 n_50
  have z_83 : h_50 a_22 = some (pA 1 20 (fun _ => 0)) := by rw [e_50]; exact upH_old z_74 n_50
  have ne_84 : a_22 ≠ a_50 := fresh_ne z_74 n_50
  have z_85 : h_50 a_28 = some (pL ([])) := by rw [e_50]; exact upH_old z_75 n_50
  have ne_86 : a_28 ≠ a_50 := fresh_ne z_75 n_50
  have z_87 : h_50 a_39 = some (pL ([])) := by rw [e_50]; exact upH_old z_76 n_50
  have ne_88 : a_39 ≠ a_50 := fresh_ne z_76 n_50
  have z_89 : h_50 q = some (pO 7 [IV 0, IV 0, IV 0, .ref a_6, .ref a_14, .ref a_22, .ref a_28, .ref a_39, .null, IV 0]) := by rw [e_50]; exact upH_old z_77 n_50
  have ne_90 : q ≠ a_50 := fresh_ne z_77 n_50
  have z_91 : h_50 a_50 = some (pO 2 [IV 0, .null, IV 0]) := by rw [e_50]; exact upH_self _ _ _
  have hk_92 : ∀ b z, h b = some z → b ≠ q → h_50 b = some z := fun b z hb hbq => by rw [e_50]; exact upH_old (hk_78 b z hb hbq) n_50
  refine j_dup (pc := 53) dX9_init_53 rfl ?_
  refine j_callI (pc := 54) (l2_init hke z_91) (lw_meth q93) q47 q711 q92 rfl md_yJ2_init (by decide) (by decide) rfl (Nat.le_of_ble_eq_true rfl) dX9_init_54 (qV.k (fun s_54 q_54 => ?_))
  have z_93 : s_54 a_6 = some (pA 0 5 (fun _ => 0)) := by rw [q_54]; exact upH_d z_79 ne_80
  have z_94 : s_54 a_14 = some (pA 0 20 (fun _ => 0)) := by rw [q_54]; exact upH_d z_81 ne_82
  have z_95 : s_54 a_22 = some (pA 1 20 (fun _ => 0)) := by rw [q_54]; exact upH_d z_83 ne_84
  have z_96 : s_54 a_28 = some (pL ([])) := by rw [q_54]; exact upH_d z_85 ne_86
  have z_97 : s_54 a_39 = some (pL ([])) := by rw [q_54]; exact upH_d z_87 ne_88
  have z_98 : s_54 q = some (pO 7 [IV 0, IV 0, IV 0, .ref a_6, .ref a_14, .ref a_22, .ref a_28, .ref a_39, .null, IV 0]) := by rw [q_54]; exact upH_d z_89 ne_90
  have z_99 : s_54 a_50 = some (pL ([])) := by rw [q_54]; exact upH_self _ _ _
  have hk_100 : ∀ b z, h b = some z → b ≠ q → s_54 b = some z := fun b z hb hbq => by rw [q_54, upH_ne (fun y => by rw [y, old_none hk50 n_50] at hb; cases hb)]; exact hk_92 b z hb hbq
  refine j2_putF rfl fp_X9_32_X9 z_98 (by decide) (Nat.le_of_ble_eq_true rfl) rfl rfl dX9_init_57 (fun h_57 e_57 => ?_)
  have z_101 : h_57 a_6 = some (pA 0 5 (fun _ => 0)) := by rw [e_57]; exact upH_d z_93 (Ne.symm ne_2)
  have z_102 : h_57 a_14 = some (pA 0 20 (fun _ => 0)) := by rw [e_57]; exact upH_d z_94 (Ne.symm ne_11)
  have z_103 : h_57 a_22 = some (pA 1 20 (fun _ => 0)) := by rw [e_57]; exact upH_d z_95 (Ne.symm ne_23)
  have z_104 : h_57 a_28 = some (pL ([])) := by rw [e_57]; exact upH_d z_96 (Ne.symm ne_38)
  have z_105 : h_57 a_39 = some (pL ([])) := by rw [e_57]; exact upH_d z_97 (Ne.symm ne_62)
  have z_106 : h_57 a_50 = some (pL ([])) := by rw [e_57]; exact upH_d z_99 (Ne.symm ne_90)
  have z_107 : h_57 q = some (pO 7 [IV 0, IV 0, IV 0, .ref a_6, .ref a_14, .ref a_22, .ref a_28, .ref a_39, .ref a_50, IV 0]) := by rw [e_57]; exact upH_self _ _ _
  have hk_108 : ∀ b z, h b = some z → b ≠ q → h_57 b = some z := fun b z hb hbq => by rw [e_57, upH_ne hbq]; exact hk_100 b z hb hbq
  refine j_aload_n (pc := 60) dX9_init_60 rfl ?_
  refine j_iconst (pc := 61) dX9_init_61 rfl ?_
  refine j2_put fp_X9_35_X9 z_107 (by decide) (Nat.le_of_ble_eq_true rfl) rfl rfl dX9_init_62 (fun h_62 e_62 => ?_)
  have z_109 : h_62 a_6 = some (pA 0 5 (fun _ => 0)) := by rw [e_62]; exact upH_d z_101 (Ne.symm ne_2)
  have z_110 : h_62 a_14 = some (pA 0 20 (fun _ => 0)) := by rw [e_62]; exact upH_d z_102 (Ne.symm ne_11)
  have z_111 : h_62 a_22 = some (pA 1 20 (fun _ => 0)) := by rw [e_62]; exact upH_d z_103 (Ne.symm ne_23)
  have z_112 : h_62 a_28 = some (pL ([])) := by rw [e_62]; exact upH_d z_104 (Ne.symm ne_38)
  have z_113 : h_62 a_39 = some (pL ([])) := by rw [e_62]; exact upH_d z_105 (Ne.symm ne_62)
  have z_114 : h_62 a_50 = some (pL ([])) := by rw [e_62]; exact upH_d z_106 (Ne.symm ne_90)
  have z_115 : h_62 q = some (pO 7 [IV 0, IV 0, IV 0, .ref a_6, .ref a_14, .ref a_22, .ref a_28, .ref a_39, .ref a_50, IV 1]) := by rw [e_62]; exact upH_self _ _ _
  have hk_116 : ∀ b z, h b = some z → b ≠ q → h_62 b = some z := fun b z hb hbq => by rw [e_62, upH_ne hbq]; exact hk_108 b z hb hbq
  refine j_iconst (pc := 65) dX9_init_65 rfl ?_
  refine j_istore (pc := 66) dX9_init_66 (by decide) (lo' := [some (.ref q), some (IV dy), some (IV m), some (IV v), some (IV 0)]) rfl ?_
  have hl_68 : ∀ (fu : Nat) (k : Nat) (g : AL2) (f9 : Nat → Int), 20 - k < fu → k ≤ 20 → (∀ j : Nat, j < k → f9 j = -1) → g = upH h_62 a_14 (pA 0 20 f9) → (∀ b z, h b = some z → b ≠ q → g b = some z) → J Γ A (Rep2 Γ A K) l RX9 "<init>" cX9_init 5 none [] 6 6 70 QP X0 0 0 g 68 [some (.ref q), some (IV dy), some (IV m), some (IV v), some (IV (k : Int))] [] := by
    intro fu
    induction fu with
    | zero => intro k g f9 hm; exact absurd hm (Nat.not_lt_zero _)
    | succ fu ih_68 =>
      intro k g f9 hm hk hf9 hg hkl
      have lc_a_6 : g a_6 = some (pA 0 5 (fun _ => 0)) := (by rw [hg]; exact upH_d z_109 ne_9)
      have lc_a_14 : g a_14 = some (pA 0 20 f9) := (by rw [hg]; exact upH_self _ _ _)
      have lc_a_22 : g a_22 = some (pA 1 20 (fun _ => 0)) := (by rw [hg]; exact upH_d z_111 (Ne.symm ne_21))
      have lc_a_28 : g a_28 = some (pL ([])) := (by rw [hg]; exact upH_d z_112 (Ne.symm ne_34))
      have lc_a_39 : g a_39 = some (pL ([])) := (by rw [hg]; exact upH_d z_113 (Ne.symm ne_56))
      have lc_a_50 : g a_50 = some (pL ([])) := (by rw [hg]; exact upH_d z_114 (Ne.symm ne_82))
      have lc_q : g q = some (pO 7 [IV 0, IV 0, IV 0, .ref a_6, .ref a_14, .ref a_22, .ref a_28, .ref a_39, .ref a_50, IV 1]) := (by rw [hg]; exact upH_d z_115 ne_11)
      refine j_iload (pc := 68) dX9_init_68 rfl ?_
      refine j_bipush (pc := 70) (a := 20) dX9_init_70 (by decide) ?_
      refine j_icmp_ge (pc := 72) (tgt := 89) dX9_init_72 (by decide) (by omega) (by decide) (fun c_72 => ?_) (fun c_72 => ?_)
      · refine j_aload_n (pc := 89) dX9_init_89 rfl ?_
        refine j_iload_n (pc := 90) dX9_init_90 rfl ?_
        refine j2_putF rfl fp_X9_39_X9 lc_q (by decide) (Nat.le_of_ble_eq_true rfl) rfl rfl dX9_init_91 (fun h_91 e_91 => ?_)
        have z_117 : h_91 a_6 = some (pA 0 5 (fun _ => 0)) := by rw [e_91]; exact upH_d lc_a_6 (Ne.symm ne_2)
        have z_118 : h_91 a_14 = some (pA 0 20 f9) := by rw [e_91]; exact upH_d lc_a_14 (Ne.symm ne_11)
        have z_119 : h_91 a_22 = some (pA 1 20 (fun _ => 0)) := by rw [e_91]; exact upH_d lc_a_22 (Ne.symm ne_23)
        have z_120 : h_91 a_28 = some (pL ([])) := by rw [e_91]; exact upH_d lc_a_28 (Ne.symm ne_38)
        have z_121 : h_91 a_39 = some (pL ([])) := by rw [e_91]; exact upH_d lc_a_39 (Ne.symm ne_62)
        have z_122 : h_91 a_50 = some (pL ([])) := by rw [e_91]; exact upH_d lc_a_50 (Ne.symm ne_90)
        have z_123 : h_91 q = some (pO 7 [IV dy, IV 0, IV 0, .ref a_6, .ref a_14, .ref a_22, .ref a_28, .ref a_39, .ref a_50, IV 1]) := by rw [e_91]; exact upH_self _ _ _
        have hk_124 : ∀ b z, h b = some z → b ≠ q → h_91 b = some z := fun b z hb hbq => by rw [e_91, upH_ne hbq]; exact hkl b z hb hbq
        refine j_aload_n (pc := 94) dX9_init_94 rfl ?_
        refine j_iload_n (pc := 95) dX9_init_95 rfl ?_
        refine j2_putF rfl fp_X9_42_X9 z_123 (by decide) (Nat.le_of_ble_eq_true rfl) rfl rfl dX9_init_96 (fun h_96 e_96 => ?_)
        have z_125 : h_96 a_6 = some (pA 0 5 (fun _ => 0)) := by rw [e_96]; exact upH_d z_117 (Ne.symm ne_2)
        have z_126 : h_96 a_14 = some (pA 0 20 f9) := by rw [e_96]; exact upH_d z_118 (Ne.symm ne_11)
        have z_127 : h_96 a_22 = some (pA 1 20 (fun _ => 0)) := by rw [e_96]; exact upH_d z_119 (Ne.symm ne_23)
        have z_128 : h_96 a_28 = some (pL ([])) := by rw [e_96]; exact upH_d z_120 (Ne.symm ne_38)
        have z_129 : h_96 a_39 = some (pL ([])) := by rw [e_96]; exact upH_d z_121 (Ne.symm ne_62)
        have z_130 : h_96 a_50 = some (pL ([])) := by rw [e_96]; exact upH_d z_122 (Ne.symm ne_90)
        have z_131 : h_96 q = some (pO 7 [IV dy, IV m, IV 0, .ref a_6, .ref a_14, .ref a_22, .ref a_28, .ref a_39, .ref a_50, IV 1]) := by rw [e_96]; exact upH_self _ _ _
        have hk_132 : ∀ b z, h b = some z → b ≠ q → h_96 b = some z := fun b z hb hbq => by rw [e_96, upH_ne hbq]; exact hk_124 b z hb hbq
        refine j_aload_n (pc := 99) dX9_init_99 rfl ?_
        refine j_iload_n (pc := 100) dX9_init_100 rfl ?_
        refine j2_putF rfl fp_X9_45_X9 z_131 (by decide) (Nat.le_of_ble_eq_true rfl) (nar_Z (by omega)) (fit_Z (by omega)) dX9_init_101 (fun h_101 e_101 => ?_)
        have z_133 : h_101 a_6 = some (pA 0 5 (fun _ => 0)) := by rw [e_101]; exact upH_d z_125 (Ne.symm ne_2)
        have z_134 : h_101 a_14 = some (pA 0 20 f9) := by rw [e_101]; exact upH_d z_126 (Ne.symm ne_11)
        have z_135 : h_101 a_22 = some (pA 1 20 (fun _ => 0)) := by rw [e_101]; exact upH_d z_127 (Ne.symm ne_23)
        have z_136 : h_101 a_28 = some (pL ([])) := by rw [e_101]; exact upH_d z_128 (Ne.symm ne_38)
        have z_137 : h_101 a_39 = some (pL ([])) := by rw [e_101]; exact upH_d z_129 (Ne.symm ne_62)
        have z_138 : h_101 a_50 = some (pL ([])) := by rw [e_101]; exact upH_d z_130 (Ne.symm ne_90)
        have z_139 : h_101 q = some (pO 7 [IV dy, IV m, IV v, .ref a_6, .ref a_14, .ref a_22, .ref a_28, .ref a_39, .ref a_50, IV 1]) := by rw [e_101]; exact upH_self _ _ _
        have hk_140 : ∀ b z, h b = some z → b ≠ q → h_101 b = some z := fun b z hb hbq => by rw [e_101, upH_ne hbq]; exact hk_132 b z hb hbq
        refine j2_ext (f := fun _ => 0) (f9 := g18) z_133 (fun j hj => (hg18 j hj).symm) (fun hx_141 ex_141 => ?_)
        have z_142 : hx_141 a_14 = some (pA 0 20 f9) := by rw [ex_141]; exact upH_d z_134 (Ne.symm ne_9)
        have z_143 : hx_141 a_22 = some (pA 1 20 (fun _ => 0)) := by rw [ex_141]; exact upH_d z_135 (Ne.symm ne_19)
        have z_144 : hx_141 a_28 = some (pL ([])) := by rw [ex_141]; exact upH_d z_136 (Ne.symm ne_32)
        have z_145 : hx_141 a_39 = some (pL ([])) := by rw [ex_141]; exact upH_d z_137 (Ne.symm ne_54)
        have z_146 : hx_141 a_50 = some (pL ([])) := by rw [ex_141]; exact upH_d z_138 (Ne.symm ne_80)
        have z_147 : hx_141 q = some (pO 7 [IV dy, IV m, IV v, .ref a_6, .ref a_14, .ref a_22, .ref a_28, .ref a_39, .ref a_50, IV 1]) := by rw [ex_141]; exact upH_d z_139 ne_2
        have z_148 : hx_141 a_6 = some (pA 0 5 g18) := by rw [ex_141]; exact upH_self _ _ _
        have hk_149 : ∀ b z, h b = some z → b ≠ q → hx_141 b = some z := fun b z hb hbq => by rw [ex_141, upH_ne (fun y => by rw [y, old_none hk6 n_6] at hb; cases hb)]; exact hk_140 b z hb hbq
        refine j2_ext (f := f9) (f9 := g20) z_142 (fun j hj => by rw [hf9 j (by omega), hg20 j hj]) (fun hx_150 ex_150 => ?_)
        have z_151 : hx_150 a_22 = some (pA 1 20 (fun _ => 0)) := by rw [ex_150]; exact upH_d z_143 (Ne.symm ne_21)
        have z_152 : hx_150 a_28 = some (pL ([])) := by rw [ex_150]; exact upH_d z_144 (Ne.symm ne_34)
        have z_153 : hx_150 a_39 = some (pL ([])) := by rw [ex_150]; exact upH_d z_145 (Ne.symm ne_56)
        have z_154 : hx_150 a_50 = some (pL ([])) := by rw [ex_150]; exact upH_d z_146 (Ne.symm ne_82)
        have z_155 : hx_150 q = some (pO 7 [IV dy, IV m, IV v, .ref a_6, .ref a_14, .ref a_22, .ref a_28, .ref a_39, .ref a_50, IV 1]) := by rw [ex_150]; exact upH_d z_147 ne_11
        have z_156 : hx_150 a_6 = some (pA 0 5 g18) := by rw [ex_150]; exact upH_d z_148 ne_9
        have z_157 : hx_150 a_14 = some (pA 0 20 g20) := by rw [ex_150]; exact upH_self _ _ _
        have hk_158 : ∀ b z, h b = some z → b ≠ q → hx_150 b = some z := fun b z hb hbq => by rw [ex_150, upH_ne (fun y => by rw [y, old_none hk14 n_14] at hb; cases hb)]; exact hk_149 b z hb hbq
        refine j2_ext (f := fun _ => 0) (f9 := g22) z_151 (fun j hj => (hg22 j hj).symm) (fun hx_159 ex_159 => ?_)
        have z_160 : hx_159 a_28 = some (pL ([])) := by rw [ex_159]; exact upH_d z_152 (Ne.symm ne_36)
        have z_161 : hx_159 a_39 = some (pL ([])) := by rw [ex_159]; exact upH_d z_153 (Ne.symm ne_58)
        have z_162 : hx_159 a_50 = some (pL ([])) := by rw [ex_159]; exact upH_d z_154 (Ne.symm ne_84)
        have z_163 : hx_159 q = some (pO 7 [IV dy, IV m, IV v, .ref a_6, .ref a_14, .ref a_22, .ref a_28, .ref a_39, .ref a_50, IV 1]) := by rw [ex_159]; exact upH_d z_155 ne_23
        have z_164 : hx_159 a_6 = some (pA 0 5 g18) := by rw [ex_159]; exact upH_d z_156 ne_19
        have z_165 : hx_159 a_14 = some (pA 0 20 g20) := by rw [ex_159]; exact upH_d z_157 ne_21
        have z_166 : hx_159 a_22 = some (pA 1 20 g22) := by rw [ex_159]; exact upH_self _ _ _
        have hk_167 : ∀ b z, h b = some z → b ≠ q → hx_159 b = some z := fun b z hb hbq => by rw [ex_159, upH_ne (fun y => by rw [y, old_none hk22 n_22] at hb; cases hb)]; exact hk_158 b z hb hbq
        refine j_vret (pc := 104) rfl (hQ _ ?_) dX9_init_104
        have hkend := hk_167
        have d_0_1 : q ≠ a_6 := ne_2
        have d_0_2 : q ≠ a_14 := ne_11
        have d_0_3 : q ≠ a_22 := ne_23
        have d_0_4 : q ≠ a_28 := ne_38
        have d_0_5 : q ≠ a_39 := ne_62
        have d_0_6 : q ≠ a_50 := ne_90
        have d_1_2 : a_6 ≠ a_14 := ne_9
        have d_1_3 : a_6 ≠ a_22 := ne_19
        have d_1_4 : a_6 ≠ a_28 := ne_32
        have d_1_5 : a_6 ≠ a_39 := ne_54
        have d_1_6 : a_6 ≠ a_50 := ne_80
        have d_2_3 : a_14 ≠ a_22 := ne_21
        have d_2_4 : a_14 ≠ a_28 := ne_34
        have d_2_5 : a_14 ≠ a_39 := ne_56
        have d_2_6 : a_14 ≠ a_50 := ne_82
        have d_3_4 : a_22 ≠ a_28 := ne_36
        have d_3_5 : a_22 ≠ a_39 := ne_58
        have d_3_6 : a_22 ≠ a_50 := ne_84
        have d_4_5 : a_28 ≠ a_39 := ne_60
        have d_4_6 : a_28 ≠ a_50 := ne_86
        have d_5_6 : a_39 ≠ a_50 := ne_88
        refine ⟨(fun k => match k with | 12 => q | 13 => a_6 | 14 => a_14 | 15 => a_22 | 16 => a_28 | 17 => a_39 | _ => a_50), rfl, six_ne d_0_1 d_0_2 d_0_3 d_0_4 d_0_5 d_0_6 d_1_2 d_1_3 d_1_4 d_1_5 d_1_6 d_2_3 d_2_4 d_2_5 d_2_6 d_3_4 d_3_5 d_3_6 d_4_5 d_4_6 d_5_6, fun k h1 h2 => ?_, z_163, z_164, z_165, z_166, z_160, z_161, z_162, ?_⟩
        · rcases (show k = 13 ∨ k = 14 ∨ k = 15 ∨ k = 16 ∨ k = 17 ∨ k = 18 by omega) with rfl | rfl | rfl | rfl | rfl | rfl
          · exact old_none hk6 n_6
          · exact old_none hk14 n_14
          · exact old_none hk22 n_22
          · exact old_none hk28 n_28
          · exact old_none hk39 n_39
          · exact old_none hk50 n_50
        · exact fun b z hb hbq => hkend b z hb hbq
      · refine j_aload_n (pc := 75) dX9_init_75 rfl ?_
        refine j2_get fa_X9_15_X9 lc_q rfl dX9_init_76 ?_
        refine j_iload (pc := 79) dX9_init_79 rfl ?_
        refine j_iconst (pc := 81) dX9_init_81 rfl ?_
        refine j2_iast (i := (k : Int)) lc_a_14 (by show 0 ≤ (k : Int) ∧ (k : Int) < ((20 : Nat) : Int); omega) dX9_init_82 (fun h_82 e_82 => ?_)
        have z_168 : h_82 a_6 = some (pA 0 5 (fun _ => 0)) := by rw [e_82]; exact upH_d lc_a_6 ne_9
        have z_169 : h_82 a_22 = some (pA 1 20 (fun _ => 0)) := by rw [e_82]; exact upH_d lc_a_22 (Ne.symm ne_21)
        have z_170 : h_82 a_28 = some (pL ([])) := by rw [e_82]; exact upH_d lc_a_28 (Ne.symm ne_34)
        have z_171 : h_82 a_39 = some (pL ([])) := by rw [e_82]; exact upH_d lc_a_39 (Ne.symm ne_56)
        have z_172 : h_82 a_50 = some (pL ([])) := by rw [e_82]; exact upH_d lc_a_50 (Ne.symm ne_82)
        have z_173 : h_82 q = some (pO 7 [IV 0, IV 0, IV 0, .ref a_6, .ref a_14, .ref a_22, .ref a_28, .ref a_39, .ref a_50, IV 1]) := by rw [e_82]; exact upH_d lc_q ne_11
        have z_174 : h_82 a_14 = some (pA 0 20 (uA f9 k (-1))) := by rw [e_82]; exact upH_self _ _ _
        have hk_175 : ∀ b z, h b = some z → b ≠ q → h_82 b = some z := fun b z hb hbq => by rw [e_82, upH_ne (fun y => by rw [y, old_none hk14 n_14] at hb; cases hb)]; exact hkl b z hb hbq
        refine j_iinc (pc := 83) dX9_init_83 rfl (by decide) (lo' := [some (.ref q), some (IV dy), some (IV m), some (IV v), some (IV ((k : Int) + 1))]) rfl ?_
        refine j_goto (pc := 86) (tgt := 68) dX9_init_86 (by decide) ?_
        exact j_room (by omega) (by omega) (ih_68 (k + 1) h_82 (uA f9 k (-1)) (by omega) (by omega) (fun j hj => by show uA f9 k (-1) j = -1; rw [uA_ap]; split; rfl; exact hf9 j (by omega)) (by rw [e_82, hg, upH_upH]; rfl) hk_175)
  exact j_room (by omega) (by omega) (hl_68 _ 0 h_62 (fun _ => 0) (Nat.lt_succ_self _) (by omega) (fun j hj => absurd hj (Nat.not_lt_zero _)) (upH_same z_110).symm hk_116)

theorem md_yJ2_isEmpty : MD yJ2_isEmpty 0 := by decide +kernel
theorem mdx_yJ2_isEmpty : MD ⟨"java/util/List", "isEmpty", "()Z"⟩ 0 := by decide +kernel
theorem fn_X1_63_X9 : FN RX1 63 7 10 [IV 0, IV 0, IV 0, .null, .null, .null, .null, .null, .null, IV 0] := ⟨RX9, TX9, tyX9, rfl, in_X9, tyX9_ok, q704, q705, q69, fun j hj => by rcases (show j = 0 ∨ j = 1 ∨ j = 2 ∨ j = 3 ∨ j = 4 ∨ j = 5 ∨ j = 6 ∨ j = 7 ∨ j = 8 ∨ j = 9 by omega) with rfl | rfl | rfl | rfl | rfl | rfl | rfl | rfl | rfl | rfl <;> rfl⟩
theorem md_yX9_init : MD yX9_init 3 := by decide +kernel
theorem fp_X1_58_X1 : FP RX1 58 0 4 (.object "BallotFoundry$Election") false := ⟨RX1, TX1, 8, "BallotFoundry", tyX1, rfl, in_X1, by decide, q120, Or.inl rfl, tyX1_ok, nmX1, rfl, rfl, fun h => nomatch h⟩
theorem fa_X1_147_X9 : FA RX1 147 7 0 := ⟨RX9, TX9, 10, "BallotFoundry$Election", rfl, in_X9, by decide, q713, Or.inl rfl⟩
set_option maxHeartbeats 4000000 in
theorem c_call {Γ : GG} {A : Nat → Prop} {K : KK} {l : Launch} (h : AL2) (hfl : l.stackTraces = false) (hke : KE Γ A K) (hfe : FE Γ) (hIOB : TH5 Γ A "java/lang/IndexOutOfBoundsException") (hIAE : TH5 Γ A "java/lang/IllegalArgumentException") (hISE : TH5 Γ A "java/lang/IllegalStateException") (o : Nat) (ad : AD) (σ : MM) (hR : Rel K h o ad σ) (hB : Bd σ) (a : Int) (ha : RR a) (m : Int) (hm : RR m) (v : Int) (hv : RR v) (hv9 : v = 0 ∨ v = 1) : Ct Γ A (Rep2 Γ A K) l yX1_call (ws_ yX1_call cX1_call 4 (some .int)) 9 9 100 [.ref o, IV a, IV m, IV v] h (qI (fun (r : Int) (h' : AL2) => t2 ((8 ≤ a ∧ a ≤ 100) ∧ 0 ≤ m ∧ m ≤ 30) ((σ.1 14 = 0 ∨ σ.1 14 = 5) ∧ 0 < σ.1 6 ∧ σ.1 0 + a ≤ 2000) = 0 ∧ r = σ.1 0 + a ∧ ∃ ad', Rel K h' o ad' (sCall σ (σ.1 0 + a) m v))) (fun (E : String) (h' : AL2) => xE ["java/lang/IllegalArgumentException", "java/lang/IllegalStateException"] (t2 ((8 ≤ a ∧ a ≤ 100) ∧ 0 ≤ m ∧ m ≤ 30) ((σ.1 14 = 0 ∨ σ.1 14 = 5) ∧ 0 < σ.1 6 ∧ σ.1 0 + a ≤ 2000)) E ∧ ∃ ad', Rel K h' o ad' σ) := by
  refine Ct.ofJ (own := RX1) (nm := "call") (lo := [some (.ref o), some (IV a), some (IV m), some (IV v)]) pn_X1 rfl rfl (List.forall_mem_cons.mpr ⟨rfl, (List.forall_mem_cons.mpr ⟨rfl, (List.forall_mem_cons.mpr ⟨rfl, (List.forall_mem_cons.mpr ⟨rfl, (fun _ h => nomatch h)⟩)⟩)⟩)⟩) (Nat.le_of_ble_eq_true rfl) rfl ?_
  have hQ : ∀ (r : Int) (h' : AL2), (t2 ((8 ≤ a ∧ a ≤ 100) ∧ 0 ≤ m ∧ m ≤ 30) ((σ.1 14 = 0 ∨ σ.1 14 = 5) ∧ 0 < σ.1 6 ∧ σ.1 0 + a ≤ 2000) = 0 ∧ r = σ.1 0 + a ∧ ∃ ad', Rel K h' o ad' (sCall σ (σ.1 0 + a) m v)) → (qI (fun (r : Int) (h' : AL2) => t2 ((8 ≤ a ∧ a ≤ 100) ∧ 0 ≤ m ∧ m ≤ 30) ((σ.1 14 = 0 ∨ σ.1 14 = 5) ∧ 0 < σ.1 6 ∧ σ.1 0 + a ≤ 2000) = 0 ∧ r = σ.1 0 + a ∧ ∃ ad', Rel K h' o ad' (sCall σ (σ.1 0 + a) m v))) (some (IV r)) h' := fun r h' h => ⟨r, rfl, h⟩
  generalize (qI (fun (r : Int) (h' : AL2) => t2 ((8 ≤ a ∧ a ≤ 100) ∧ 0 ≤ m ∧ m ≤ 30) ((σ.1 14 = 0 ∨ σ.1 14 = 5) ∧ 0 < σ.1 6 ∧ σ.1 0 + a ≤ 2000) = 0 ∧ r = σ.1 0 + a ∧ ∃ ad', Rel K h' o ad' (sCall σ (σ.1 0 + a) m v))) = QP at hQ ⊢
  have hX : ∀ (E : String) (h' : AL2), (xE ["java/lang/IllegalArgumentException", "java/lang/IllegalStateException"] (t2 ((8 ≤ a ∧ a ≤ 100) ∧ 0 ≤ m ∧ m ≤ 30) ((σ.1 14 = 0 ∨ σ.1 14 = 5) ∧ 0 < σ.1 6 ∧ σ.1 0 + a ≤ 2000)) E ∧ ∃ ad', Rel K h' o ad' σ) → (fun (E : String) (h' : AL2) => xE ["java/lang/IllegalArgumentException", "java/lang/IllegalStateException"] (t2 ((8 ≤ a ∧ a ≤ 100) ∧ 0 ≤ m ∧ m ≤ 30) ((σ.1 14 = 0 ∨ σ.1 14 = 5) ∧ 0 < σ.1 6 ∧ σ.1 0 + a ≤ 2000)) E ∧ ∃ ad', Rel K h' o ad' σ) E h' := fun E h' h => h
  generalize (fun (E : String) (h' : AL2) => xE ["java/lang/IllegalArgumentException", "java/lang/IllegalStateException"] (t2 ((8 ≤ a ∧ a ≤ 100) ∧ 0 ≤ m ∧ m ≤ 30) ((σ.1 14 = 0 ∨ σ.1 14 = 5) ∧ 0 < σ.1 6 ∧ σ.1 0 + a ≤ 2000)) E ∧ ∃ ad', Rel K h' o ad' σ) = XP at hX ⊢
  have n6 : 0 ≤ σ.1 6 ∧ σ.1 6 ≤ 5 := hB.1 6
  have n0 : 0 ≤ σ.1 0 ∧ σ.1 0 ≤ 2100 := hB.1 0
  have n14 : 0 ≤ σ.1 14 ∧ σ.1 14 ≤ 5 := hB.1 14
  refine j_iload_n (pc := 0) dX1_call_0 rfl ?_
  refine j_bipush (pc := 1) (a := 8) dX1_call_1 (by decide) ?_
  refine j_bipush (pc := 3) (a := 100) dX1_call_3 (by decide) ?_
  refine j_callS (pc := 5) (c_isIn h a 8 100 (by omega) (by decide) (by decide)) (lw_S q440 q441 q44 q442) md_yX1_isIn (by decide) (by decide) rfl (Nat.le_of_ble_eq_true rfl) dX1_call_5 (qI.k (fun r_5 s_5 q_5 => ?_))
  obtain ⟨e1q_5, e2q_5⟩ := q_5
  subst r_5
  subst s_5
  refine j_ifb_eq (pc := 8) (tgt := 25) dX1_call_8 (by decide) (fun c_8 => ?_) (fun c_8 => ?_)
  · have b8 := c_8
    refine j_iconst (pc := 25) dX1_call_25 rfl ?_
    refine j_room (cl' := 8 + 1) (sl' := 94 + 6) (by omega) (by omega) ?_
    refine j_callSx (pc := 26) (c_want h hfl RG.of2 hIAE 0 (Or.inl rfl)) (lw_S q403 q404 q44 q405) md_yX1_want (nT _) (fun E x9 hx9 => by obtain ⟨hn9, rfl, rfl⟩ := hx9; (try have hn8 := bI_0 hn9); exact hX _ _ ⟨xE_of 0 (by unfold t2; (repeat' split) <;> omega) rfl, ad, hR⟩) (by decide) (by decide) rfl (Nat.le_of_ble_eq_true rfl) dX1_call_26 (qV.k (fun s_26 q_26 => ?_))
    exact absurd q_26.1 (by decide)
  · have b8 := c_8
    refine j_iload_n (pc := 11) dX1_call_11 rfl ?_
    refine j_iconst (pc := 12) dX1_call_12 rfl ?_
    refine j_bipush (pc := 13) (a := 30) dX1_call_13 (by decide) ?_
    refine j_callS (pc := 15) (c_isIn h m 0 30 (by omega) (by decide) (by decide)) (lw_S q440 q441 q44 q442) md_yX1_isIn (by decide) (by decide) rfl (Nat.le_of_ble_eq_true rfl) dX1_call_15 (qI.k (fun r_15 s_15 q_15 => ?_))
    obtain ⟨e1q_15, e2q_15⟩ := q_15
    subst r_15
    subst s_15
    refine j_ifb_eq (pc := 18) (tgt := 25) dX1_call_18 (by decide) (fun c_18 => ?_) (fun c_18 => ?_)
    · have b18 := c_18
      refine j_iconst (pc := 25) dX1_call_25 rfl ?_
      refine j_room (cl' := 8 + 1) (sl' := 94 + 6) (by omega) (by omega) ?_
      refine j_callSx (pc := 26) (c_want h hfl RG.of2 hIAE 0 (Or.inl rfl)) (lw_S q403 q404 q44 q405) md_yX1_want (nT _) (fun E x9 hx9 => by obtain ⟨hn9, rfl, rfl⟩ := hx9; (try have hn8 := bI_0 hn9); exact hX _ _ ⟨xE_of 0 (by unfold t2; (repeat' split) <;> omega) rfl, ad, hR⟩) (by decide) (by decide) rfl (Nat.le_of_ble_eq_true rfl) dX1_call_26 (qV.k (fun s_26_1 q_26_1 => ?_))
      exact absurd q_26_1.1 (by decide)
    · have b18 := c_18
      refine j_iconst (pc := 21) dX1_call_21 rfl ?_
      refine j_goto (pc := 22) (tgt := 26) dX1_call_22 (by decide) ?_
      refine j_room (cl' := 8 + 1) (sl' := 94 + 6) (by omega) (by omega) ?_
      refine j_callSx (pc := 26) (c_want h hfl RG.of2 hIAE 1 (Or.inr rfl)) (lw_S q403 q404 q44 q405) md_yX1_want (nT _) (fun E x9 hx9 => by obtain ⟨hn9, rfl, rfl⟩ := hx9; (try have hn8 := bI_0 hn9); exact hX _ _ ⟨xE_of 0 (by unfold t2; (repeat' split) <;> omega) rfl, ad, hR⟩) (by decide) (by decide) rfl (Nat.le_of_ble_eq_true rfl) dX1_call_26 (qV.k (fun s_26_1 q_26_1 => ?_))
      obtain ⟨q_26_1b, q_26_1e⟩ := q_26_1
      subst s_26_1
      refine j_aload_n (pc := 29) dX1_call_29 rfl ?_
      refine j_callV (pc := 30) (c_stage h o ad σ hR hB) (lw_V q172 q147 q148 q44 q149) rfl md_yX1_stage (RC.of2 (show h (o) = some (pO 0 [.ref (ad 1 0 0), .ref (ad 2 0 0), .ref (ad 3 0 0), .ref (ad 4 0 0), va_rf (if σ.1 14 = 0 then none else some (ad 12 0 0)), IV (σ.1 0), .ref (ad 5 0 0), .ref (ad 6 0 0)]) from hR.top) rfl) (by decide) (by decide) rfl (Nat.le_of_ble_eq_true rfl) dX1_call_30 (qI.k (fun r_30 s_30 q_30 => ?_))
      obtain ⟨e1q_30, e2q_30⟩ := q_30
      subst r_30
      subst s_30
      have n14_30 : 0 ≤ σ.1 14 ∧ σ.1 14 ≤ 5 := hB.1 14
      refine j_if_eq (pc := 33) (tgt := 44) dX1_call_33 (by decide) (by omega) (fun c_33 => ?_) (fun c_33 => ?_)
      · refine j_aload_n (pc := 44) dX1_call_44 rfl ?_
        refine j2_get fa_X1_20_X1 (show h (o) = some (pO 0 [.ref (ad 1 0 0), .ref (ad 2 0 0), .ref (ad 3 0 0), .ref (ad 4 0 0), va_rf (if σ.1 14 = 0 then none else some (ad 12 0 0)), IV (σ.1 0), .ref (ad 5 0 0), .ref (ad 6 0 0)]) from hR.top) rfl dX1_call_45 ?_
        refine j_callF (pc := 48) (xm := ⟨"java/util/List", "isEmpty", "()Z"⟩) (l2_isEmpty (show h (ad 3 0 0) = some (pL (rg (σ.1 6) (fun p => ad 8 p 0))) from hR.at 3 0 0 ⟨rfl, rfl⟩)) (lw_F q696 q699 q701 q47 q703) hfe.2.1 (ci := 2) rfl rfl mdx_yJ2_isEmpty (RC.ofL (show h (ad 3 0 0) = some (pL (rg (σ.1 6) (fun p => ad 8 p 0))) from hR.at 3 0 0 ⟨rfl, rfl⟩)) (by decide) (by decide) rfl (Nat.le_of_ble_eq_true rfl) dX1_call_48 (qI.k (fun r_48 s_48 q_48 => ?_))
        obtain ⟨e1q_48, e2q_48⟩ := q_48
        subst s_48
        rw [rg_len (by omega)] at e1q_48
        subst r_48
        refine j_ifb_ne (pc := 53) (tgt := 72) dX1_call_53 (by decide) (fun c_53 => ?_) (fun c_53 => ?_)
        · have b53 := c_53
          refine j_iconst (pc := 72) dX1_call_72 rfl ?_
          refine j_room (cl' := 7 + 1) (sl' := 88 + 6) (by omega) (by omega) ?_
          refine j_callSx (pc := 73) (c_allow h hfl RG.of2 hISE 0 (Or.inl rfl)) (lw_S q443 q444 q44 q445) md_yX1_allow (nT _) (fun E x9 hx9 => by obtain ⟨hn9, rfl, rfl⟩ := hx9; (try have hn8 := bI_0 hn9); exact hX _ _ ⟨xE_of 1 (by unfold t2; (repeat' split) <;> omega) rfl, ad, hR⟩) (by decide) (by decide) rfl (Nat.le_of_ble_eq_true rfl) dX1_call_73 (qV.k (fun s_73 q_73 => ?_))
          exact absurd q_73.1 (by decide)
        · have b53 := c_53
          refine j_aload_n (pc := 56) dX1_call_56 rfl ?_
          refine j2_get fa_X1_110_X1 (show h (o) = some (pO 0 [.ref (ad 1 0 0), .ref (ad 2 0 0), .ref (ad 3 0 0), .ref (ad 4 0 0), va_rf (if σ.1 14 = 0 then none else some (ad 12 0 0)), IV (σ.1 0), .ref (ad 5 0 0), .ref (ad 6 0 0)]) from hR.top) rfl dX1_call_57 ?_
          have n_1 : 0 ≤ σ.1 0 ∧ σ.1 0 ≤ 2100 := hB.1 0
          refine j_iload_n (pc := 60) dX1_call_60 rfl ?_
          refine j_iadd (pc := 61) dX1_call_61 ?_
          refine j_sipush (pc := 62) (a := 2000) dX1_call_62 (by decide) ?_
          refine j_icmp_gt (pc := 65) (tgt := 72) dX1_call_65 (by decide) (by omega) (by decide) (fun c_65 => ?_) (fun c_65 => ?_)
          · refine j_iconst (pc := 72) dX1_call_72 rfl ?_
            refine j_room (cl' := 7 + 1) (sl' := 88 + 6) (by omega) (by omega) ?_
            refine j_callSx (pc := 73) (c_allow h hfl RG.of2 hISE 0 (Or.inl rfl)) (lw_S q443 q444 q44 q445) md_yX1_allow (nT _) (fun E x9 hx9 => by obtain ⟨hn9, rfl, rfl⟩ := hx9; (try have hn8 := bI_0 hn9); exact hX _ _ ⟨xE_of 1 (by unfold t2; (repeat' split) <;> omega) rfl, ad, hR⟩) (by decide) (by decide) rfl (Nat.le_of_ble_eq_true rfl) dX1_call_73 (qV.k (fun s_73_1 q_73_1 => ?_))
            exact absurd q_73_1.1 (by decide)
          · refine j_iconst (pc := 68) dX1_call_68 rfl ?_
            refine j_goto (pc := 69) (tgt := 73) dX1_call_69 (by decide) ?_
            refine j_room (cl' := 7 + 1) (sl' := 88 + 6) (by omega) (by omega) ?_
            refine j_callSx (pc := 73) (c_allow h hfl RG.of2 hISE 1 (Or.inr rfl)) (lw_S q443 q444 q44 q445) md_yX1_allow (nT _) (fun E x9 hx9 => by obtain ⟨hn9, rfl, rfl⟩ := hx9; (try have hn8 := bI_0 hn9); exact hX _ _ ⟨xE_of 1 (by unfold t2; (repeat' split) <;> omega) rfl, ad, hR⟩) (by decide) (by decide) rfl (Nat.le_of_ble_eq_true rfl) dX1_call_73 (qV.k (fun s_73_1 q_73_1 => ?_))
            obtain ⟨q_73_1b, q_73_1e⟩ := q_73_1
            subst s_73_1
            refine j_aload_n (pc := 76) dX1_call_76 rfl ?_
            refine j_room (cl' := 6 + 1) (sl' := 78 + 10) (by omega) (by omega) ?_
            refine j2_new hke.1 (Or.inl (by decide)) fn_X1_63_X9 dX1_call_77 (fun a_77 h_77 n_77 e_77 => ?_)
            have z_2 : h_77 a_77 = some (pO 7 [IV 0, IV 0, IV 0, .null, .null, .null, .null, .null, .null, IV 0]) := by rw [e_77]; exact upH_self _ _ _
            have fo_a_77 : ∀ k i j, live σ k i j → ad k i j ≠ a_77 := fun k i j hl => hR.fresh n_77 hl
            have R_3 : Rel K h_77 o ad σ := hR.other (fun b c hb => by rw [e_77]; exact upH_old hb n_77)
            refine j_dup (pc := 80) dX1_call_80 rfl ?_
            refine j_aload_n (pc := 81) dX1_call_81 rfl ?_
            refine j2_get fa_X1_110_X1 (show h_77 (o) = some (pO 0 [.ref (ad 1 0 0), .ref (ad 2 0 0), .ref (ad 3 0 0), .ref (ad 4 0 0), va_rf (if σ.1 14 = 0 then none else some (ad 12 0 0)), IV (σ.1 0), .ref (ad 5 0 0), .ref (ad 6 0 0)]) from R_3.top) rfl dX1_call_82 ?_
            refine j_iload_n (pc := 85) dX1_call_85 rfl ?_
            refine j_iadd (pc := 86) dX1_call_86 ?_
            refine j_iload_n (pc := 87) dX1_call_87 rfl ?_
            refine j_iload_n (pc := 88) dX1_call_88 rfl ?_
            have KO9 : ∀ b c9, h b = some c9 → h_77 b = some c9 := fun b c9 hb => by rw [e_77]; exact upH_old hb n_77
            have NQ9 := n_77
            refine j_room (cl' := 0 + 6) (sl' := 8 + 70) (by omega) (by omega) ?_
            refine j_callI (pc := 89) (c_elInit h_77 hke a_77 ((σ.1 0) + a) m v hv9 ((sClears σ).2 18) ((sClears σ).2 20) ((sClears σ).2 22) (fun j hj => (sClears_s _ hj).1) (fun j hj => (sClears_p _ hj).1) (fun j hj => (sClears_p _ hj).2) z_2) (lw_meth q708) q69 q706 q707 rfl md_yX9_init (by decide) (by decide) rfl (Nat.le_of_ble_eq_true rfl) dX1_call_89 (qV.k (fun s_89 q_89 => ?_))
            obtain ⟨F9, F12, Fne, Fn, Fc12, Fc13, Fc14, Fc15, Fc16, Fc17, Fc18, Fk⟩ := q_89
            have Fq := Fc12
            rw [F12] at Fq
            have foF : ∀ x, 12 ≤ x → x ≤ 18 → ∀ k i j, live σ k i j → ad k i j ≠ F9 x := fun x h1 h2 k i j hl => by rcases (show x = 12 ∨ 13 ≤ x by omega) with e9 | e9; rw [e9, F12]; exact fo_a_77 k i j hl; exact R_3.fresh (Fn x e9 h2) hl
            have Rq : Rel K s_89 o ad σ := ⟨R_3.1, fun k i j hl => Fk _ _ (R_3.at k i j hl) (fo_a_77 k i j hl), R_3.2.2⟩
            refine j2_put fp_X1_58_X1 (show s_89 (o) = some (pO 0 [.ref (ad 1 0 0), .ref (ad 2 0 0), .ref (ad 3 0 0), .ref (ad 4 0 0), va_rf (if σ.1 14 = 0 then none else some (ad 12 0 0)), IV (σ.1 0), .ref (ad 5 0 0), .ref (ad 6 0 0)]) from Rq.top) (by decide) (Nat.le_of_ble_eq_true rfl) rfl rfl dX1_call_92 (fun h_92 e_92 => ?_)
            have oF : ∀ x, 12 ≤ x → x ≤ 18 → F9 x ≠ o := fun x h1 h2 z => foF x h1 h2 0 0 0 ⟨rfl, rfl⟩ (Rq.1.trans z.symm)
            have G12 := Fc12
            rw [← show h_92 (F9 12) = s_89 (F9 12) by rw [e_92, upH_ne (oF 12 (by decide) (by decide))]] at G12
            have G13 := Fc13
            rw [← show h_92 (F9 13) = s_89 (F9 13) by rw [e_92, upH_ne (oF 13 (by decide) (by decide))]] at G13
            have G14 := Fc14
            rw [← show h_92 (F9 14) = s_89 (F9 14) by rw [e_92, upH_ne (oF 14 (by decide) (by decide))]] at G14
            have G15 := Fc15
            rw [← show h_92 (F9 15) = s_89 (F9 15) by rw [e_92, upH_ne (oF 15 (by decide) (by decide))]] at G15
            have G16 := Fc16
            rw [← show h_92 (F9 16) = s_89 (F9 16) by rw [e_92, upH_ne (oF 16 (by decide) (by decide))]] at G16
            have G17 := Fc17
            rw [← show h_92 (F9 17) = s_89 (F9 17) by rw [e_92, upH_ne (oF 17 (by decide) (by decide))]] at G17
            have G18 := Fc18
            rw [← show h_92 (F9 18) = s_89 (F9 18) by rw [e_92, upH_ne (oF 18 (by decide) (by decide))]] at G18
            have R9 : Rel K h_92 o (adE ad F9) (sCall σ (σ.1 0 + a) m v) := hR.elect (fun x h1 h2 k i j hl => foF x h1 h2 k i j hl) Fne (by rw [e_92, F12]; exact upH_self _ _ _) G12 G13 G14 G15 G16 G17 G18 (fun b c9 hb hbo => by rw [e_92, upH_ne hbo]; exact Fk _ _ (KO9 b c9 hb) (fun z => by rw [z, NQ9] at hb; cases hb))
            have hz9 : (sCall σ (σ.1 0 + a) m v).1 14 ≠ 0 := by show (1 : Int) ≠ 0; decide
            refine j_aload_n (pc := 95) dX1_call_95 rfl ?_
            refine j2_get fa_X1_58_X1 (show h_92 (o) = some (pO 0 [.ref ((adE ad F9) 1 0 0), .ref ((adE ad F9) 2 0 0), .ref ((adE ad F9) 3 0 0), .ref ((adE ad F9) 4 0 0), .ref ((adE ad F9) 12 0 0), IV ((sCall σ (σ.1 0 + a) m v).1 0), .ref ((adE ad F9) 5 0 0), .ref ((adE ad F9) 6 0 0)]) from R9.top1 hz9) rfl dX1_call_96 ?_
            refine j2_get fa_X1_147_X9 (R9.at 12 0 0 ⟨hz9, rfl, rfl⟩) rfl dX1_call_99 ?_
            refine j_iret (pc := 102) rfl (hQ _ _ ?_) dX1_call_102
            exact ⟨by unfold t2; (repeat' split) <;> omega, rfl, (adE ad F9), R9⟩
      · refine j_aload_n (pc := 36) dX1_call_36 rfl ?_
        refine j_callV (pc := 37) (c_stage h o ad σ hR hB) (lw_V q172 q147 q148 q44 q149) rfl md_yX1_stage (RC.of2 (show h (o) = some (pO 0 [.ref (ad 1 0 0), .ref (ad 2 0 0), .ref (ad 3 0 0), .ref (ad 4 0 0), va_rf (if σ.1 14 = 0 then none else some (ad 12 0 0)), IV (σ.1 0), .ref (ad 5 0 0), .ref (ad 6 0 0)]) from hR.top) rfl) (by decide) (by decide) rfl (Nat.le_of_ble_eq_true rfl) dX1_call_37 (qI.k (fun r_37 s_37 q_37 => ?_))
        obtain ⟨e1q_37, e2q_37⟩ := q_37
        subst r_37
        subst s_37
        have n14_37 : 0 ≤ σ.1 14 ∧ σ.1 14 ≤ 5 := hB.1 14
        refine j_iconst (pc := 40) dX1_call_40 rfl ?_
        refine j_icmp_ne (pc := 41) (tgt := 72) dX1_call_41 (by decide) (by omega) (by decide) (fun c_41 => ?_) (fun c_41 => ?_)
        · refine j_iconst (pc := 72) dX1_call_72 rfl ?_
          refine j_room (cl' := 7 + 1) (sl' := 88 + 6) (by omega) (by omega) ?_
          refine j_callSx (pc := 73) (c_allow h hfl RG.of2 hISE 0 (Or.inl rfl)) (lw_S q443 q444 q44 q445) md_yX1_allow (nT _) (fun E x9 hx9 => by obtain ⟨hn9, rfl, rfl⟩ := hx9; (try have hn8 := bI_0 hn9); exact hX _ _ ⟨xE_of 1 (by unfold t2; (repeat' split) <;> omega) rfl, ad, hR⟩) (by decide) (by decide) rfl (Nat.le_of_ble_eq_true rfl) dX1_call_73 (qV.k (fun s_73_1 q_73_1 => ?_))
          exact absurd q_73_1.1 (by decide)
        · refine j_aload_n (pc := 44) dX1_call_44 rfl ?_
          refine j2_get fa_X1_20_X1 (show h (o) = some (pO 0 [.ref (ad 1 0 0), .ref (ad 2 0 0), .ref (ad 3 0 0), .ref (ad 4 0 0), va_rf (if σ.1 14 = 0 then none else some (ad 12 0 0)), IV (σ.1 0), .ref (ad 5 0 0), .ref (ad 6 0 0)]) from hR.top) rfl dX1_call_45 ?_
          refine j_callF (pc := 48) (xm := ⟨"java/util/List", "isEmpty", "()Z"⟩) (l2_isEmpty (show h (ad 3 0 0) = some (pL (rg (σ.1 6) (fun p => ad 8 p 0))) from hR.at 3 0 0 ⟨rfl, rfl⟩)) (lw_F q696 q699 q701 q47 q703) hfe.2.1 (ci := 2) rfl rfl mdx_yJ2_isEmpty (RC.ofL (show h (ad 3 0 0) = some (pL (rg (σ.1 6) (fun p => ad 8 p 0))) from hR.at 3 0 0 ⟨rfl, rfl⟩)) (by decide) (by decide) rfl (Nat.le_of_ble_eq_true rfl) dX1_call_48 (qI.k (fun r_48_1 s_48_1 q_48_1 => ?_))
          obtain ⟨e1q_48_1, e2q_48_1⟩ := q_48_1
          subst s_48_1
          rw [rg_len (by omega)] at e1q_48_1
          subst r_48_1
          refine j_ifb_ne (pc := 53) (tgt := 72) dX1_call_53 (by decide) (fun c_53_1 => ?_) (fun c_53_1 => ?_)
          · have b53 := c_53_1
            refine j_iconst (pc := 72) dX1_call_72 rfl ?_
            refine j_room (cl' := 7 + 1) (sl' := 88 + 6) (by omega) (by omega) ?_
            refine j_callSx (pc := 73) (c_allow h hfl RG.of2 hISE 0 (Or.inl rfl)) (lw_S q443 q444 q44 q445) md_yX1_allow (nT _) (fun E x9 hx9 => by obtain ⟨hn9, rfl, rfl⟩ := hx9; (try have hn8 := bI_0 hn9); exact hX _ _ ⟨xE_of 1 (by unfold t2; (repeat' split) <;> omega) rfl, ad, hR⟩) (by decide) (by decide) rfl (Nat.le_of_ble_eq_true rfl) dX1_call_73 (qV.k (fun s_73_1 q_73_1 => ?_))
            exact absurd q_73_1.1 (by decide)
          · have b53 := c_53_1
            refine j_aload_n (pc := 56) dX1_call_56 rfl ?_
            refine j2_get fa_X1_110_X1 (show h (o) = some (pO 0 [.ref (ad 1 0 0), .ref (ad 2 0 0), .ref (ad 3 0 0), .ref (ad 4 0 0), va_rf (if σ.1 14 = 0 then none else some (ad 12 0 0)), IV (σ.1 0), .ref (ad 5 0 0), .ref (ad 6 0 0)]) from hR.top) rfl dX1_call_57 ?_
            have n_4 : 0 ≤ σ.1 0 ∧ σ.1 0 ≤ 2100 := hB.1 0
            refine j_iload_n (pc := 60) dX1_call_60 rfl ?_
            refine j_iadd (pc := 61) dX1_call_61 ?_
            refine j_sipush (pc := 62) (a := 2000) dX1_call_62 (by decide) ?_
            refine j_icmp_gt (pc := 65) (tgt := 72) dX1_call_65 (by decide) (by omega) (by decide) (fun c_65_1 => ?_) (fun c_65_1 => ?_)
            · refine j_iconst (pc := 72) dX1_call_72 rfl ?_
              refine j_room (cl' := 7 + 1) (sl' := 88 + 6) (by omega) (by omega) ?_
              refine j_callSx (pc := 73) (c_allow h hfl RG.of2 hISE 0 (Or.inl rfl)) (lw_S q443 q444 q44 q445) md_yX1_allow (nT _) (fun E x9 hx9 => by obtain ⟨hn9, rfl, rfl⟩ := hx9; (try have hn8 := bI_0 hn9); exact hX _ _ ⟨xE_of 1 (by unfold t2; (repeat' split) <;> omega) rfl, ad, hR⟩) (by decide) (by decide) rfl (Nat.le_of_ble_eq_true rfl) dX1_call_73 (qV.k (fun s_73_1 q_73_1 => ?_))
              exact absurd q_73_1.1 (by decide)
            · refine j_iconst (pc := 68) dX1_call_68 rfl ?_
              refine j_goto (pc := 69) (tgt := 73) dX1_call_69 (by decide) ?_
              refine j_room (cl' := 7 + 1) (sl' := 88 + 6) (by omega) (by omega) ?_
              refine j_callSx (pc := 73) (c_allow h hfl RG.of2 hISE 1 (Or.inr rfl)) (lw_S q443 q444 q44 q445) md_yX1_allow (nT _) (fun E x9 hx9 => by obtain ⟨hn9, rfl, rfl⟩ := hx9; (try have hn8 := bI_0 hn9); exact hX _ _ ⟨xE_of 1 (by unfold t2; (repeat' split) <;> omega) rfl, ad, hR⟩) (by decide) (by decide) rfl (Nat.le_of_ble_eq_true rfl) dX1_call_73 (qV.k (fun s_73_1 q_73_1 => ?_))
              obtain ⟨q_73_1b, q_73_1e⟩ := q_73_1
              subst s_73_1
              refine j_aload_n (pc := 76) dX1_call_76 rfl ?_
              refine j_room (cl' := 6 + 1) (sl' := 78 + 10) (by omega) (by omega) ?_
              refine j2_new hke.1 (Or.inl (by decide)) fn_X1_63_X9 dX1_call_77 (fun a_77_1 h_77_1 n_77_1 e_77_1 => ?_)
              have z_5 : h_77_1 a_77_1 = some (pO 7 [IV 0, IV 0, IV 0, .null, .null, .null, .null, .null, .null, IV 0]) := by rw [e_77_1]; exact upH_self _ _ _
              have fo_a_77_1 : ∀ k i j, live σ k i j → ad k i j ≠ a_77_1 := fun k i j hl => hR.fresh n_77_1 hl
              have R_6 : Rel K h_77_1 o ad σ := hR.other (fun b c hb => by rw [e_77_1]; exact upH_old hb n_77_1)
              refine j_dup (pc := 80) dX1_call_80 rfl ?_
              refine j_aload_n (pc := 81) dX1_call_81 rfl ?_
              refine j2_get fa_X1_110_X1 (show h_77_1 (o) = some (pO 0 [.ref (ad 1 0 0), .ref (ad 2 0 0), .ref (ad 3 0 0), .ref (ad 4 0 0), va_rf (if σ.1 14 = 0 then none else some (ad 12 0 0)), IV (σ.1 0), .ref (ad 5 0 0), .ref (ad 6 0 0)]) from R_6.top) rfl dX1_call_82 ?_
              refine j_iload_n (pc := 85) dX1_call_85 rfl ?_
              refine j_iadd (pc := 86) dX1_call_86 ?_
              refine j_iload_n (pc := 87) dX1_call_87 rfl ?_
              refine j_iload_n (pc := 88) dX1_call_88 rfl ?_
              have KO9 : ∀ b c9, h b = some c9 → h_77_1 b = some c9 := fun b c9 hb => by rw [e_77_1]; exact upH_old hb n_77_1
              have NQ9 := n_77_1
              refine j_room (cl' := 0 + 6) (sl' := 8 + 70) (by omega) (by omega) ?_
              refine j_callI (pc := 89) (c_elInit h_77_1 hke a_77_1 ((σ.1 0) + a) m v hv9 ((sClears σ).2 18) ((sClears σ).2 20) ((sClears σ).2 22) (fun j hj => (sClears_s _ hj).1) (fun j hj => (sClears_p _ hj).1) (fun j hj => (sClears_p _ hj).2) z_5) (lw_meth q708) q69 q706 q707 rfl md_yX9_init (by decide) (by decide) rfl (Nat.le_of_ble_eq_true rfl) dX1_call_89 (qV.k (fun s_89_1 q_89_1 => ?_))
              obtain ⟨F9, F12, Fne, Fn, Fc12, Fc13, Fc14, Fc15, Fc16, Fc17, Fc18, Fk⟩ := q_89_1
              have Fq := Fc12
              rw [F12] at Fq
              have foF : ∀ x, 12 ≤ x → x ≤ 18 → ∀ k i j, live σ k i j → ad k i j ≠ F9 x := fun x h1 h2 k i j hl => by rcases (show x = 12 ∨ 13 ≤ x by omega) with e9 | e9; rw [e9, F12]; exact fo_a_77_1 k i j hl; exact R_6.fresh (Fn x e9 h2) hl
              have Rq : Rel K s_89_1 o ad σ := ⟨R_6.1, fun k i j hl => Fk _ _ (R_6.at k i j hl) (fo_a_77_1 k i j hl), R_6.2.2⟩
              refine j2_put fp_X1_58_X1 (show s_89_1 (o) = some (pO 0 [.ref (ad 1 0 0), .ref (ad 2 0 0), .ref (ad 3 0 0), .ref (ad 4 0 0), va_rf (if σ.1 14 = 0 then none else some (ad 12 0 0)), IV (σ.1 0), .ref (ad 5 0 0), .ref (ad 6 0 0)]) from Rq.top) (by decide) (Nat.le_of_ble_eq_true rfl) rfl rfl dX1_call_92 (fun h_92_1 e_92_1 => ?_)
              have oF : ∀ x, 12 ≤ x → x ≤ 18 → F9 x ≠ o := fun x h1 h2 z => foF x h1 h2 0 0 0 ⟨rfl, rfl⟩ (Rq.1.trans z.symm)
              have G12 := Fc12
              rw [← show h_92_1 (F9 12) = s_89_1 (F9 12) by rw [e_92_1, upH_ne (oF 12 (by decide) (by decide))]] at G12
              have G13 := Fc13
              rw [← show h_92_1 (F9 13) = s_89_1 (F9 13) by rw [e_92_1, upH_ne (oF 13 (by decide) (by decide))]] at G13
              have G14 := Fc14
              rw [← show h_92_1 (F9 14) = s_89_1 (F9 14) by rw [e_92_1, upH_ne (oF 14 (by decide) (by decide))]] at G14
              have G15 := Fc15
              rw [← show h_92_1 (F9 15) = s_89_1 (F9 15) by rw [e_92_1, upH_ne (oF 15 (by decide) (by decide))]] at G15
              have G16 := Fc16
              rw [← show h_92_1 (F9 16) = s_89_1 (F9 16) by rw [e_92_1, upH_ne (oF 16 (by decide) (by decide))]] at G16
              have G17 := Fc17
              rw [← show h_92_1 (F9 17) = s_89_1 (F9 17) by rw [e_92_1, upH_ne (oF 17 (by decide) (by decide))]] at G17
              have G18 := Fc18
              rw [← show h_92_1 (F9 18) = s_89_1 (F9 18) by rw [e_92_1, upH_ne (oF 18 (by decide) (by decide))]] at G18
              have R9 : Rel K h_92_1 o (adE ad F9) (sCall σ (σ.1 0 + a) m v) := hR.elect (fun x h1 h2 k i j hl => foF x h1 h2 k i j hl) Fne (by rw [e_92_1, F12]; exact upH_self _ _ _) G12 G13 G14 G15 G16 G17 G18 (fun b c9 hb hbo => by rw [e_92_1, upH_ne hbo]; exact Fk _ _ (KO9 b c9 hb) (fun z => by rw [z, NQ9] at hb; cases hb))
              have hz9 : (sCall σ (σ.1 0 + a) m v).1 14 ≠ 0 := by show (1 : Int) ≠ 0; decide
              refine j_aload_n (pc := 95) dX1_call_95 rfl ?_
              refine j2_get fa_X1_58_X1 (show h_92_1 (o) = some (pO 0 [.ref ((adE ad F9) 1 0 0), .ref ((adE ad F9) 2 0 0), .ref ((adE ad F9) 3 0 0), .ref ((adE ad F9) 4 0 0), .ref ((adE ad F9) 12 0 0), IV ((sCall σ (σ.1 0 + a) m v).1 0), .ref ((adE ad F9) 5 0 0), .ref ((adE ad F9) 6 0 0)]) from R9.top1 hz9) rfl dX1_call_96 ?_
              refine j2_get fa_X1_147_X9 (R9.at 12 0 0 ⟨hz9, rfl, rfl⟩) rfl dX1_call_99 ?_
              refine j_iret (pc := 102) rfl (hQ _ _ ?_) dX1_call_102
              exact ⟨by unfold t2; (repeat' split) <;> omega, rfl, (adE ad F9), R9⟩

