set_option maxRecDepth 100000
theorem six_ne1 {F : Nat → Nat} (d1_2 : F 1 ≠ F 2) (d1_3 : F 1 ≠ F 3) (d1_4 : F 1 ≠ F 4) (d1_5 : F 1 ≠ F 5) (d1_6 : F 1 ≠ F 6) (d2_3 : F 2 ≠ F 3) (d2_4 : F 2 ≠ F 4) (d2_5 : F 2 ≠ F 5) (d2_6 : F 2 ≠ F 6) (d3_4 : F 3 ≠ F 4) (d3_5 : F 3 ≠ F 5) (d3_6 : F 3 ≠ F 6) (d4_5 : F 4 ≠ F 5) (d4_6 : F 4 ≠ F 6) (d5_6 : F 5 ≠ F 6) : ∀ i j, 1 ≤ i → i < j → j ≤ 6 → F i ≠ F j := by
  intro i j h1 h2 h3
  have hi : i = 1 ∨ i = 2 ∨ i = 3 ∨ i = 4 ∨ i = 5 := by omega
  have hj : j = 2 ∨ j = 3 ∨ j = 4 ∨ j = 5 ∨ j = 6 := by omega
  rcases hi with rfl | rfl | rfl | rfl | rfl <;> rcases hj with rfl | rfl | rfl | rfl | rfl <;> first | assumption | (exfalso; omega)

/-- the component at its start, and the reference's state then -/
abbrev s00 : MM := (fun _ => 0, fun _ _ => 0)
abbrev sStart : MM := sClears s00
theorem sStart_1 (k : Nat) : sStart.1 k = 0 := by
  rw [show sStart.1 = _ from sClears_1 s00]
  show (if k = 42 then (0 : Int) else if k = 26 then 0 else if k = 19 then 0 else 0) = 0
  split
  · rfl
  · split
    · rfl
    · split <;> rfl
theorem Rel.start {K : KK} {h : AL2} {q : Nat} {F : Nat → Nat} (hF : ∀ i j, 1 ≤ i → i < j → j ≤ 6 → F i ≠ F j) (hq : ∀ i, 1 ≤ i → i ≤ 6 → F i ≠ q) (h0 : h q = some (pO 0 [.ref (F 1), .ref (F 2), .ref (F 3), .ref (F 4), .null, IV 0, .ref (F 5), .ref (F 6)])) (h1 : h (F 1) = some (pA 1 72 (fun _ => 0))) (h2 : h (F 2) = some (pL [])) (h3 : h (F 3) = some (pL [])) (h4 : h (F 4) = some (pA 0 4 (fun _ => 0))) (h5 : h (F 5) = some (pA 0 36 (fun _ => 0))) (h6 : h (F 6) = some (pA 0 36 (fun _ => 0))) :
    Rel K h q (fun k _ _ => if k = 0 then q else F k) sStart := by
  have e14 := sStart_1 14
  have key : ∀ k i j, live sStart k i j → k ≤ 6 ∧ i = 0 ∧ j = 0 := fun k i j hl => by
    revert hl
    unfold live
    rw [sStart_1 9, sStart_1 6, sStart_1 13, e14]
    split <;> first | exact fun z => ⟨by decide, z⟩ | exact fun z => absurd rfl z.1 | exact fun z => by omega | exact fun z => z.elim
  have d1 : ∀ x, x ≠ 18 ∧ x ≠ 20 ∧ x ≠ 21 ∧ x ≠ 22 ∧ x ≠ 28 ∧ x ≠ 31 ∧ x ≠ 32 → sStart.2 x = fun _ => 0 := fun x hx => sClears_2 s00 hx
  refine ⟨rfl, fun k i j hl => ?_, fun k i j k2 i2 j2 l1 l2 e => ?_⟩
  · obtain ⟨hk, rfl, rfl⟩ := key k i j hl
    rcases (show k = 0 ∨ k = 1 ∨ k = 2 ∨ k = 3 ∨ k = 4 ∨ k = 5 ∨ k = 6 by omega) with rfl | rfl | rfl | rfl | rfl | rfl | rfl
    · show h q = some (pO 0 [.ref (F 1), .ref (F 2), .ref (F 3), .ref (F 4), va_rf (if sStart.1 14 = 0 then none else some (F 12)), IV (sStart.1 0), .ref (F 5), .ref (F 6)])
      rw [if_pos e14, sStart_1 0]
      exact h0
    · show h (F 1) = some (pA 1 72 (sStart.2 1))
      rw [d1 1 (by decide)]; exact h1
    · show h (F 2) = some (cL (rg (sStart.1 9) _))
      rw [sStart_1 9]; exact h2
    · show h (F 3) = some (cL (rg (sStart.1 6) _))
      rw [sStart_1 6]; exact h3
    · show h (F 4) = some (pA 0 4 (sStart.2 33))
      rw [d1 33 (by decide)]; exact h4
    · show h (F 5) = some (pA 0 36 (sStart.2 2))
      rw [d1 2 (by decide)]; exact h5
    · show h (F 6) = some (pA 0 36 (sStart.2 3))
      rw [d1 3 (by decide)]; exact h6
  · obtain ⟨hk, rfl, rfl⟩ := key k i j l1
    obtain ⟨hk2, rfl, rfl⟩ := key k2 i2 j2 l2
    refine ⟨?_, rfl, rfl⟩
    have e : (if k = 0 then q else F k) = (if k2 = 0 then q else F k2) := e
    by_cases g : k = 0
    · by_cases g2 : k2 = 0
      · omega
      · rw [if_pos g, if_neg g2] at e; exact absurd e.symm (hq k2 (by omega) hk2)
    · by_cases g2 : k2 = 0
      · rw [if_neg g, if_pos g2] at e; exact absurd e (hq k (by omega) hk)
      · rw [if_neg g, if_neg g2] at e
        rcases Nat.lt_trichotomy k k2 with z | z | z
        · exact absurd e (hF _ _ (by omega) z hk2)
        · exact z
        · exact absurd e.symm (hF _ _ (by omega) z hk)

theorem fp_X1_9_X1 : FP RX1 9 0 0 (.array .boolean) true := ⟨RX1, TX1, 8, "BallotFoundry", tyX1, rfl, in_X1, by decide, q116, Or.inl rfl, tyX1_ok, nmX1, rfl, rfl, fun _ => rfl⟩
theorem fn_X1_13_J2 : FN RX1 13 2 3 [IV 0, .null, IV 0] := ⟨RJ2, TJ2, tyJ2, rfl, in_J2, tyJ2_ok, q89, q90, q47, fun j hj => by rcases (show j = 0 ∨ j = 1 ∨ j = 2 by omega) with rfl | rfl | rfl <;> rfl⟩
theorem fp_X1_16_X1 : FP RX1 16 0 1 (.object "java/util/List") true := ⟨RX1, TX1, 8, "BallotFoundry", tyX1, rfl, in_X1, by decide, q117, Or.inl rfl, tyX1_ok, nmX1, rfl, rfl, fun _ => rfl⟩
theorem fp_X1_20_X1 : FP RX1 20 0 2 (.object "java/util/List") true := ⟨RX1, TX1, 8, "BallotFoundry", tyX1, rfl, in_X1, by decide, q118, Or.inl rfl, tyX1_ok, nmX1, rfl, rfl, fun _ => rfl⟩
theorem fp_X1_23_X1 : FP RX1 23 0 3 (.array .int) true := ⟨RX1, TX1, 8, "BallotFoundry", tyX1, rfl, in_X1, by decide, q119, Or.inl rfl, tyX1_ok, nmX1, rfl, rfl, fun _ => rfl⟩
theorem fp_X1_27_X1 : FP RX1 27 0 6 (.array .int) true := ⟨RX1, TX1, 8, "BallotFoundry", tyX1, rfl, in_X1, by decide, q122, Or.inl rfl, tyX1_ok, nmX1, rfl, rfl, fun _ => rfl⟩
theorem fp_X1_30_X1 : FP RX1 30 0 7 (.array .int) true := ⟨RX1, TX1, 8, "BallotFoundry", tyX1, rfl, in_X1, by decide, q123, Or.inl rfl, tyX1_ok, nmX1, rfl, rfl, fun _ => rfl⟩
set_option maxHeartbeats 4000000 in
theorem c_init0 {Γ : GG} {A : Nat → Prop} {K : KK} {l : Launch} (h : AL2) (hke : KE Γ A K) (q : Nat) (hq : h q = some (pO 0 [.null, .null, .null, .null, .null, IV 0, .null, .null])) : Ct Γ A (Rep2 Γ A K) l yX1_init (ws_ yX1_init cX1_init 1 none) 6 6 160 [.ref q] h (qV (fun (h' : AL2) => ∃ F : Nat → Nat, (∀ i j, 1 ≤ i → i < j → j ≤ 6 → F i ≠ F j) ∧ (∀ i, 1 ≤ i → i ≤ 6 → F i ≠ q) ∧ h' q = some (pO 0 [.ref (F 1), .ref (F 2), .ref (F 3), .ref (F 4), .null, IV 0, .ref (F 5), .ref (F 6)]) ∧ h' (F 1) = some (pA 1 72 (fun _ => 0)) ∧ h' (F 2) = some (pL []) ∧ h' (F 3) = some (pL []) ∧ h' (F 4) = some (pA 0 4 (fun _ => 0)) ∧ h' (F 5) = some (pA 0 36 (fun _ => 0)) ∧ h' (F 6) = some (pA 0 36 (fun _ => 0)))) X0 := by
  refine Ct.ofJ (own := RX1) (nm := "<init>") (lo := [some (.ref q)]) pn_X1 rfl rfl (List.forall_mem_cons.mpr ⟨rfl, (fun _ h => nomatch h)⟩) (Nat.le_of_ble_eq_true rfl) rfl ?_
  have hQ : ∀ (h' : AL2), (∃ F : Nat → Nat, (∀ i j, 1 ≤ i → i < j → j ≤ 6 → F i ≠ F j) ∧ (∀ i, 1 ≤ i → i ≤ 6 → F i ≠ q) ∧ h' q = some (pO 0 [.ref (F 1), .ref (F 2), .ref (F 3), .ref (F 4), .null, IV 0, .ref (F 5), .ref (F 6)]) ∧ h' (F 1) = some (pA 1 72 (fun _ => 0)) ∧ h' (F 2) = some (pL []) ∧ h' (F 3) = some (pL []) ∧ h' (F 4) = some (pA 0 4 (fun _ => 0)) ∧ h' (F 5) = some (pA 0 36 (fun _ => 0)) ∧ h' (F 6) = some (pA 0 36 (fun _ => 0))) → (qV (fun (h' : AL2) => ∃ F : Nat → Nat, (∀ i j, 1 ≤ i → i < j → j ≤ 6 → F i ≠ F j) ∧ (∀ i, 1 ≤ i → i ≤ 6 → F i ≠ q) ∧ h' q = some (pO 0 [.ref (F 1), .ref (F 2), .ref (F 3), .ref (F 4), .null, IV 0, .ref (F 5), .ref (F 6)]) ∧ h' (F 1) = some (pA 1 72 (fun _ => 0)) ∧ h' (F 2) = some (pL []) ∧ h' (F 3) = some (pL []) ∧ h' (F 4) = some (pA 0 4 (fun _ => 0)) ∧ h' (F 5) = some (pA 0 36 (fun _ => 0)) ∧ h' (F 6) = some (pA 0 36 (fun _ => 0)))) none h' := fun h' h => ⟨rfl, h⟩
  generalize (qV (fun (h' : AL2) => ∃ F : Nat → Nat, (∀ i j, 1 ≤ i → i < j → j ≤ 6 → F i ≠ F j) ∧ (∀ i, 1 ≤ i → i ≤ 6 → F i ≠ q) ∧ h' q = some (pO 0 [.ref (F 1), .ref (F 2), .ref (F 3), .ref (F 4), .null, IV 0, .ref (F 5), .ref (F 6)]) ∧ h' (F 1) = some (pA 1 72 (fun _ => 0)) ∧ h' (F 2) = some (pL []) ∧ h' (F 3) = some (pL []) ∧ h' (F 4) = some (pA 0 4 (fun _ => 0)) ∧ h' (F 5) = some (pA 0 36 (fun _ => 0)) ∧ h' (F 6) = some (pA 0 36 (fun _ => 0)))) = QP at hQ ⊢
  refine j_aload_n (pc := 0) dX1_init_0 rfl ?_
  refine j_objInit (pc := 1) q86 q87 q88 (by decide) (Nat.le_of_ble_eq_true rfl) dX1_init_1 ?_
  refine j_aload_n (pc := 4) dX1_init_4 rfl ?_
  refine j_bipush (pc := 5) (a := 72) dX1_init_5 (by decide) ?_
  refine j_room (cl' := 5 + 1) (sl' := 88 + 72) (by omega) (by omega) ?_
  refine j2_newa (i := 72) (N := 72) (atype := .boolean) hke.1 (Or.inr (Or.inl ⟨rfl, rfl⟩)) q115 (by omega) (by omega) (by omega) dX1_init_7 (fun a_7 h_7 n_7 e_7 => ?_)
  have z_1 : h_7 q = some (pO 0 [.null, .null, .null, .null, .null, IV 0, .null, .null]) := by rw [e_7]; exact upH_old hq n_7
  have ne_2 : q ≠ a_7 := fresh_ne hq n_7
  have z_3 : h_7 a_7 = some (pA 1 72 (fun _ => 0)) := by rw [e_7]; exact upH_self _ _ _
  refine j2_putF rfl fp_X1_9_X1 z_1 (by decide) (Nat.le_of_ble_eq_true rfl) rfl rfl dX1_init_9 (fun h_9 e_9 => ?_)
  have z_4 : h_9 a_7 = some (pA 1 72 (fun _ => 0)) := by rw [e_9]; exact upH_d z_3 (Ne.symm ne_2)
  have z_5 : h_9 q = some (pO 0 [.ref a_7, .null, .null, .null, .null, IV 0, .null, .null]) := by rw [e_9]; exact upH_self _ _ _
  refine j_aload_n (pc := 12) dX1_init_12 rfl ?_
  refine j_room (cl' := 4 + 1) (sl' := 85 + 3) (by omega) (by omega) ?_
  refine j2_new hke.1 (Or.inr rfl) fn_X1_13_J2 dX1_init_13 (fun a_13 h_13 n_13 e_13 => ?_)
  have z_6 : h_13 a_7 = some (pA 1 72 (fun _ => 0)) := by rw [e_13]; exact upH_old z_4 n_13
  have ne_7 : a_7 ≠ a_13 := fresh_ne z_4 n_13
  have z_8 : h_13 q = some (pO 0 [.ref a_7, .null, .null, .null, .null, IV 0, .null, .null]) := by rw [e_13]; exact upH_old z_5 n_13
  have ne_9 : q ≠ a_13 := fresh_ne z_5 n_13
  have z_10 : h_13 a_13 = some (pO 2 [IV 0, .null, IV 0]) := by rw [e_13]; exact upH_self _ _ _
  refine j_dup (pc := 16) dX1_init_16 rfl ?_
  refine j_callI (pc := 17) (l2_init hke z_10) (lw_meth q93) q47 q91 q92 rfl md_yJ2_init (by decide) (by decide) rfl (Nat.le_of_ble_eq_true rfl) dX1_init_17 (qV.k (fun s_17 q_17 => ?_))
  have z_11 : s_17 a_7 = some (pA 1 72 (fun _ => 0)) := by rw [q_17]; exact upH_d z_6 ne_7
  have z_12 : s_17 q = some (pO 0 [.ref a_7, .null, .null, .null, .null, IV 0, .null, .null]) := by rw [q_17]; exact upH_d z_8 ne_9
  have z_13 : s_17 a_13 = some (pL ([])) := by rw [q_17]; exact upH_self _ _ _
  refine j2_putF rfl fp_X1_16_X1 z_12 (by decide) (Nat.le_of_ble_eq_true rfl) rfl rfl dX1_init_20 (fun h_20 e_20 => ?_)
  have z_14 : h_20 a_7 = some (pA 1 72 (fun _ => 0)) := by rw [e_20]; exact upH_d z_11 (Ne.symm ne_2)
  have z_15 : h_20 a_13 = some (pL ([])) := by rw [e_20]; exact upH_d z_13 (Ne.symm ne_9)
  have z_16 : h_20 q = some (pO 0 [.ref a_7, .ref a_13, .null, .null, .null, IV 0, .null, .null]) := by rw [e_20]; exact upH_self _ _ _
  refine j_aload_n (pc := 23) dX1_init_23 rfl ?_
  refine j_room (cl' := 3 + 1) (sl' := 82 + 3) (by omega) (by omega) ?_
  refine j2_new hke.1 (Or.inr rfl) fn_X1_13_J2 dX1_init_24 (fun a_24 h_24 n_24 e_24 => ?_)
  have z_17 : h_24 a_7 = some (pA 1 72 (fun _ => 0)) := by rw [e_24]; exact upH_old z_14 n_24
  have ne_18 : a_7 ≠ a_24 := fresh_ne z_14 n_24
  have z_19 : h_24 a_13 = some (pL ([])) := by rw [e_24]; exact upH_old z_15 n_24
  have ne_20 : a_13 ≠ a_24 := fresh_ne z_15 n_24
  have z_21 : h_24 q = some (pO 0 [.ref a_7, .ref a_13, .null, .null, .null, IV 0, .null, .null]) := by rw [e_24]; exact upH_old z_16 n_24
  have ne_22 : q ≠ a_24 := fresh_ne z_16 n_24
  have z_23 : h_24 a_24 = some (pO 2 [IV 0, .null, IV 0]) := by rw [e_24]; exact upH_self _ _ _
  refine j_dup (pc := 27) dX1_init_27 rfl ?_
  refine j_callI (pc := 28) (l2_init hke z_23) (lw_meth q93) q47 q91 q92 rfl md_yJ2_init (by decide) (by decide) rfl (Nat.le_of_ble_eq_true rfl) dX1_init_28 (qV.k (fun s_28 q_28 => ?_))
  have z_24 : s_28 a_7 = some (pA 1 72 (fun _ => 0)) := by rw [q_28]; exact upH_d z_17 ne_18
  have z_25 : s_28 a_13 = some (pL ([])) := by rw [q_28]; exact upH_d z_19 ne_20
  have z_26 : s_28 q = some (pO 0 [.ref a_7, .ref a_13, .null, .null, .null, IV 0, .null, .null]) := by rw [q_28]; exact upH_d z_21 ne_22
  have z_27 : s_28 a_24 = some (pL ([])) := by rw [q_28]; exact upH_self _ _ _
  refine j2_putF rfl fp_X1_20_X1 z_26 (by decide) (Nat.le_of_ble_eq_true rfl) rfl rfl dX1_init_31 (fun h_31 e_31 => ?_)
  have z_28 : h_31 a_7 = some (pA 1 72 (fun _ => 0)) := by rw [e_31]; exact upH_d z_24 (Ne.symm ne_2)
  have z_29 : h_31 a_13 = some (pL ([])) := by rw [e_31]; exact upH_d z_25 (Ne.symm ne_9)
  have z_30 : h_31 a_24 = some (pL ([])) := by rw [e_31]; exact upH_d z_27 (Ne.symm ne_22)
  have z_31 : h_31 q = some (pO 0 [.ref a_7, .ref a_13, .ref a_24, .null, .null, IV 0, .null, .null]) := by rw [e_31]; exact upH_self _ _ _
  refine j_aload_n (pc := 34) dX1_init_34 rfl ?_
  refine j_iconst (pc := 35) dX1_init_35 rfl ?_
  refine j_room (cl' := 2 + 1) (sl' := 78 + 4) (by omega) (by omega) ?_
  refine j2_newa (i := 4) (N := 4) (atype := .int) hke.1 (Or.inl ⟨rfl, rfl⟩) q141 (by omega) (by omega) (by omega) dX1_init_36 (fun a_36 h_36 n_36 e_36 => ?_)
  have z_32 : h_36 a_7 = some (pA 1 72 (fun _ => 0)) := by rw [e_36]; exact upH_old z_28 n_36
  have ne_33 : a_7 ≠ a_36 := fresh_ne z_28 n_36
  have z_34 : h_36 a_13 = some (pL ([])) := by rw [e_36]; exact upH_old z_29 n_36
  have ne_35 : a_13 ≠ a_36 := fresh_ne z_29 n_36
  have z_36 : h_36 a_24 = some (pL ([])) := by rw [e_36]; exact upH_old z_30 n_36
  have ne_37 : a_24 ≠ a_36 := fresh_ne z_30 n_36
  have z_38 : h_36 q = some (pO 0 [.ref a_7, .ref a_13, .ref a_24, .null, .null, IV 0, .null, .null]) := by rw [e_36]; exact upH_old z_31 n_36
  have ne_39 : q ≠ a_36 := fresh_ne z_31 n_36
  have z_40 : h_36 a_36 = some (pA 0 4 (fun _ => 0)) := by rw [e_36]; exact upH_self _ _ _
  refine j2_putF rfl fp_X1_23_X1 z_38 (by decide) (Nat.le_of_ble_eq_true rfl) rfl rfl dX1_init_38 (fun h_38 e_38 => ?_)
  have z_41 : h_38 a_7 = some (pA 1 72 (fun _ => 0)) := by rw [e_38]; exact upH_d z_32 (Ne.symm ne_2)
  have z_42 : h_38 a_13 = some (pL ([])) := by rw [e_38]; exact upH_d z_34 (Ne.symm ne_9)
  have z_43 : h_38 a_24 = some (pL ([])) := by rw [e_38]; exact upH_d z_36 (Ne.symm ne_22)
  have z_44 : h_38 a_36 = some (pA 0 4 (fun _ => 0)) := by rw [e_38]; exact upH_d z_40 (Ne.symm ne_39)
  have z_45 : h_38 q = some (pO 0 [.ref a_7, .ref a_13, .ref a_24, .ref a_36, .null, IV 0, .null, .null]) := by rw [e_38]; exact upH_self _ _ _
  refine j_aload_n (pc := 41) dX1_init_41 rfl ?_
  refine j_bipush (pc := 42) (a := 36) dX1_init_42 (by decide) ?_
  refine j_room (cl' := 1 + 1) (sl' := 42 + 36) (by omega) (by omega) ?_
  refine j2_newa (i := 36) (N := 36) (atype := .int) hke.1 (Or.inl ⟨rfl, rfl⟩) q141 (by omega) (by omega) (by omega) dX1_init_44 (fun a_44 h_44 n_44 e_44 => ?_)
  have z_46 : h_44 a_7 = some (pA 1 72 (fun _ => 0)) := by rw [e_44]; exact upH_old z_41 n_44
  have ne_47 : a_7 ≠ a_44 := fresh_ne z_41 n_44
  have z_48 : h_44 a_13 = some (pL ([])) := by rw [e_44]; exact upH_old z_42 n_44
  have ne_49 : a_13 ≠ a_44 := fresh_ne z_42 n_44
  have z_50 : h_44 a_24 = some (pL ([])) := by rw [e_44]; exact upH_old z_43 n_44
  have ne_51 : a_24 ≠ a_44 := fresh_ne z_43 n_44
  have z_52 : h_44 a_36 = some (pA 0 4 (fun _ => 0)) := by rw [e_44]; exact upH_old z_44 n_44
  have ne_53 : a_36 ≠ a_44 := fresh_ne z_44 n_44
  have z_54 : h_44 q = some (pO 0 [.ref a_7, .ref a_13, .ref a_24, .ref a_36, .null, IV 0, .null, .null]) := by rw [e_44]; exact upH_old z_45 n_44
  have ne_55 : q ≠ a_44 := fresh_ne z_45 n_44
  have z_56 : h_44 a_44 = some (pA 0 36 (fun _ => 0)) := by rw [e_44]; exact upH_self _ _ _
  refine j2_putF rfl fp_X1_27_X1 z_54 (by decide) (Nat.le_of_ble_eq_true rfl) rfl rfl dX1_init_46 (fun h_46 e_46 => ?_)
  have z_57 : h_46 a_7 = some (pA 1 72 (fun _ => 0)) := by rw [e_46]; exact upH_d z_46 (Ne.symm ne_2)
  have z_58 : h_46 a_13 = some (pL ([])) := by rw [e_46]; exact upH_d z_48 (Ne.symm ne_9)
  have z_59 : h_46 a_24 = some (pL ([])) := by rw [e_46]; exact upH_d z_50 (Ne.symm ne_22)
  have z_60 : h_46 a_36 = some (pA 0 4 (fun _ => 0)) := by rw [e_46]; exact upH_d z_52 (Ne.symm ne_39)
  have z_61 : h_46 a_44 = some (pA 0 36 (fun _ => 0)) := by rw [e_46]; exact upH_d z_56 (Ne.symm ne_55)
  have z_62 : h_46 q = some (pO 0 [.ref a_7, .ref a_13, .ref a_24, .ref a_36, .null, IV 0, .ref a_44, .null]) := by rw [e_46]; exact upH_self _ _ _
  refine j_aload_n (pc := 49) dX1_init_49 rfl ?_
  refine j_bipush (pc := 50) (a := 36) dX1_init_50 (by decide) ?_
  refine j_room (cl' := 0 + 1) (sl' := 6 + 36) (by omega) (by omega) ?_
  refine j2_newa (i := 36) (N := 36) (atype := .int) hke.1 (Or.inl ⟨rfl, rfl⟩) q141 (by omega) (by omega) (by omega) dX1_init_52 (fun a_52 h_52 n_52 e_52 => ?_)
  have z_63 : h_52 a_7 = some (pA 1 72 (fun _ => 0)) := by rw [e_52]; exact upH_old z_57 n_52
  have ne_64 : a_7 ≠ a_52 := fresh_ne z_57 n_52
  have z_65 : h_52 a_13 = some (pL ([])) := by rw [e_52]; exact upH_old z_58 n_52
  have ne_66 : a_13 ≠ a_52 := fresh_ne z_58 n_52
  have z_67 : h_52 a_24 = some (pL ([])) := by rw [e_52]; exact upH_old z_59 n_52
  have ne_68 : a_24 ≠ a_52 := fresh_ne z_59 n_52
  have z_69 : h_52 a_36 = some (pA 0 4 (fun _ => 0)) := by rw [e_52]; exact upH_old z_60 n_52
  have ne_70 : a_36 ≠ a_52 := fresh_ne z_60 n_52
  have z_71 : h_52 a_44 = some (pA 0 36 (fun _ => 0)) := by rw [e_52]; exact upH_old z_61 n_52
  have ne_72 : a_44 ≠ a_52 := fresh_ne z_61 n_52
  have z_73 : h_52 q = some (pO 0 [.ref a_7, .ref a_13, .ref a_24, .ref a_36, .null, IV 0, .ref a_44, .null]) := by rw [e_52]; exact upH_old z_62 n_52
  have ne_74 : q ≠ a_52 := fresh_ne z_62 n_52
  have z_75 : h_52 a_52 = some (pA 0 36 (fun _ => 0)) := by rw [e_52]; exact upH_self _ _ _
  refine j2_putF rfl fp_X1_30_X1 z_73 (by decide) (Nat.le_of_ble_eq_true rfl) rfl rfl dX1_init_54 (fun h_54 e_54 => ?_)
  have z_76 : h_54 a_7 = some (pA 1 72 (fun _ => 0)) := by rw [e_54]; exact upH_d z_63 (Ne.symm ne_2)
  have z_77 : h_54 a_13 = some (pL ([])) := by rw [e_54]; exact upH_d z_65 (Ne.symm ne_9)
  have z_78 : h_54 a_24 = some (pL ([])) := by rw [e_54]; exact upH_d z_67 (Ne.symm ne_22)
  have z_79 : h_54 a_36 = some (pA 0 4 (fun _ => 0)) := by rw [e_54]; exact upH_d z_69 (Ne.symm ne_39)
  have z_80 : h_54 a_44 = some (pA 0 36 (fun _ => 0)) := by rw [e_54]; exact upH_d z_71 (Ne.symm ne_55)
  have z_81 : h_54 a_52 = some (pA 0 36 (fun _ => 0)) := by rw [e_54]; exact upH_d z_75 (Ne.symm ne_74)
  have z_82 : h_54 q = some (pO 0 [.ref a_7, .ref a_13, .ref a_24, .ref a_36, .null, IV 0, .ref a_44, .ref a_52]) := by rw [e_54]; exact upH_self _ _ _
  refine j_vret (pc := 57) rfl (hQ _ ?_) dX1_init_57
  have d_0_1 : a_7 ≠ a_13 := ne_7
  have d_0_2 : a_7 ≠ a_24 := ne_18
  have d_0_3 : a_7 ≠ a_36 := ne_33
  have d_0_4 : a_7 ≠ a_44 := ne_47
  have d_0_5 : a_7 ≠ a_52 := ne_64
  have dq_0 : a_7 ≠ q := (Ne.symm ne_2)
  have d_1_2 : a_13 ≠ a_24 := ne_20
  have d_1_3 : a_13 ≠ a_36 := ne_35
  have d_1_4 : a_13 ≠ a_44 := ne_49
  have d_1_5 : a_13 ≠ a_52 := ne_66
  have dq_1 : a_13 ≠ q := (Ne.symm ne_9)
  have d_2_3 : a_24 ≠ a_36 := ne_37
  have d_2_4 : a_24 ≠ a_44 := ne_51
  have d_2_5 : a_24 ≠ a_52 := ne_68
  have dq_2 : a_24 ≠ q := (Ne.symm ne_22)
  have d_3_4 : a_36 ≠ a_44 := ne_53
  have d_3_5 : a_36 ≠ a_52 := ne_70
  have dq_3 : a_36 ≠ q := (Ne.symm ne_39)
  have d_4_5 : a_44 ≠ a_52 := ne_72
  have dq_4 : a_44 ≠ q := (Ne.symm ne_55)
  have dq_5 : a_52 ≠ q := (Ne.symm ne_74)
  exact ⟨(fun k => match k with | 1 => a_7 | 2 => a_13 | 3 => a_24 | 4 => a_36 | 5 => a_44 | _ => a_52), six_ne1 d_0_1 d_0_2 d_0_3 d_0_4 d_0_5 d_1_2 d_1_3 d_1_4 d_1_5 d_2_3 d_2_4 d_2_5 d_3_4 d_3_5 d_4_5, fun i h1 h2 => by rcases (show i = 1 ∨ i = 2 ∨ i = 3 ∨ i = 4 ∨ i = 5 ∨ i = 6 by omega) with rfl | rfl | rfl | rfl | rfl | rfl; exact dq_0; exact dq_1; exact dq_2; exact dq_3; exact dq_4; exact dq_5, z_82, z_76, z_77, z_78, z_79, z_80, z_81⟩

theorem c_init {Γ : GG} {A : Nat → Prop} {K : KK} {l : Launch} (h : AL2) (hke : KE Γ A K) (q : Nat) (hq : h q = some (pO 0 [.null, .null, .null, .null, .null, IV 0, .null, .null])) : Ct Γ A (Rep2 Γ A K) l yX1_init (ws_ yX1_init cX1_init 1 none) 6 6 160 [.ref q] h (qV (fun h' => ∃ ad, Rel K h' q ad sStart)) X0 := by
  refine Ct.lift (Rep := Rep2 Γ A K) fun s H hK hR => ⟨h, _, _, hR, c_init0 h hke q hq, ?_, fun E z q => q.elim⟩
  rintro v z ⟨rfl, F, hF, hFq, h0, h1, h2, h3, h4, h5, h6⟩ H1 hz
  exact ⟨z, ⟨rfl, _, Rel.start hF hFq h0 h1 h2 h3 h4 h5 h6⟩, hz⟩

