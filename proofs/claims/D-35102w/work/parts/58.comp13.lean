set_option maxRecDepth 100000
theorem fa_X9_25_X9 : FA RX9 25 7 6 := ⟨RX9, TX9, 10, "BallotFoundry$Election", rfl, in_X9, by decide, q725, Or.inl rfl⟩
theorem fa_X9_15_X9 : FA RX9 15 7 4 := ⟨RX9, TX9, 10, "BallotFoundry$Election", rfl, in_X9, by decide, q721, Or.inl rfl⟩
set_option maxHeartbeats 4000000 in
theorem c_boxOf {Γ : GG} {A : Nat → Prop} {K : KK} {l : Launch} (h : AL2) (hfe : FE Γ) (o : Nat) (ad : AD) (σ : MM) (hR : Rel K h o ad σ) (hB : Bd σ) (hz : σ.1 14 ≠ 0) (p : Nat) (hp : (p : Int) < σ.1 9) (y9 : Nat) (hy : σ.2 20 p = (y9 : Int)) (hy19 : (y9 : Int) < σ.1 19) : Ct Γ A (Rep2 Γ A K) l yX9_boxOf (ws_ yX9_boxOf cX9_boxOf 2 (some (.object "BallotFoundry$Box"))) 4 0 0 [.ref (ad 12 0 0), .ref (ad 7 p 0)] h (qR (fun (r : Nat) (h' : AL2) => r = ad 19 y9 0 ∧ h' = h)) X0 := by
  refine Ct.ofJ (own := RX9) (nm := "boxOf") (lo := [some (.ref (ad 12 0 0)), some (.ref (ad 7 p 0))]) pn_X9 rfl rfl (List.forall_mem_cons.mpr ⟨rfl, (List.forall_mem_cons.mpr ⟨rfl, (fun _ h => nomatch h)⟩)⟩) (Nat.le_of_ble_eq_true rfl) rfl ?_
  have hQ : ∀ (r : Nat) (h' : AL2), (r = ad 19 y9 0 ∧ h' = h) → (qR (fun (r : Nat) (h' : AL2) => r = ad 19 y9 0 ∧ h' = h)) (some (.ref r)) h' := fun r h' h => ⟨r, rfl, h⟩
  generalize (qR (fun (r : Nat) (h' : AL2) => r = ad 19 y9 0 ∧ h' = h)) = QP at hQ ⊢
  have n9 : 0 ≤ σ.1 9 ∧ σ.1 9 ≤ 20 := hB.1 9
  have n19 : 0 ≤ σ.1 19 ∧ σ.1 19 ≤ 5 := hB.1 19
  refine j_aload_n (pc := 0) dX9_boxOf_0 rfl ?_
  refine j2_get fa_X9_25_X9 (show h (ad 12 0 0) = some (pO 7 [IV (σ.1 15), IV (σ.1 16), IV (σ.1 17), .ref (ad 13 0 0), .ref (ad 14 0 0), .ref (ad 15 0 0), .ref (ad 16 0 0), .ref (ad 17 0 0), .ref (ad 18 0 0), IV (σ.1 14)]) from hR.at 12 0 0 ⟨hz, rfl, rfl⟩) rfl dX9_boxOf_1 ?_
  refine j_aload_n (pc := 4) dX9_boxOf_4 rfl ?_
  refine j2_get fa_X9_15_X9 (show h (ad 12 0 0) = some (pO 7 [IV (σ.1 15), IV (σ.1 16), IV (σ.1 17), .ref (ad 13 0 0), .ref (ad 14 0 0), .ref (ad 15 0 0), .ref (ad 16 0 0), .ref (ad 17 0 0), .ref (ad 18 0 0), IV (σ.1 14)]) from hR.at 12 0 0 ⟨hz, rfl, rfl⟩) rfl dX9_boxOf_5 ?_
  refine j_aload_n (pc := 8) dX9_boxOf_8 rfl ?_
  refine j2_get fa_X9_81_X4 (show h (ad 7 p 0) = some (pO 4 [IV ((p : Nat) : Int), IV (σ.2 7 p), .ref (ad 9 p 0), IV (σ.2 8 p)]) from hR.at 7 p 0 ⟨hp, rfl⟩) rfl dX9_boxOf_9 ?_
  refine j2_iald (i := ((p : Nat) : Int)) (show h (ad 14 0 0) = some (pA 0 20 (σ.2 20)) from hR.at 14 0 0 ⟨hz, rfl, rfl⟩) (by show 0 ≤ ((p : Nat) : Int) ∧ ((p : Nat) : Int) < ((20 : Nat) : Int); omega) dX9_boxOf_12 ?_
  refine j_eqI (σ.2 20 p) rfl ?_
  have n_1 : (-1) ≤ σ.2 20 p ∧ σ.2 20 p ≤ 4 := hB.2 20 p
  refine j_eqI (y9 : Int) hy.symm ?_
  refine j_callF (pc := 13) (xm := ⟨"java/util/List", "get", "(I)Ljava/lang/Object;"⟩) (l2_get (show h (ad 16 0 0) = some (pL (rg (σ.1 19) (fun q => ad 19 q 0))) from hR.at 16 0 0 ⟨hz, rfl, rfl⟩) (i := (y9 : Int)) (v := ad 19 y9 0) (by omega) (rg_at (by omega) (by omega))) (lw_F q645 q185 q187 q47 q189) hfe.2.2.1 (ci := 2) rfl rfl mdx_yJ2_get (RC.ofL (show h (ad 16 0 0) = some (pL (rg (σ.1 19) (fun q => ad 19 q 0))) from hR.at 16 0 0 ⟨hz, rfl, rfl⟩)) (by decide) (by decide) rfl (Nat.le_of_ble_eq_true rfl) dX9_boxOf_13 (qR.k (fun r_13 s_13 q_13 => ?_))
  obtain ⟨e1q_13, e2q_13⟩ := q_13
  subst r_13
  subst s_13
  refine j2_castS (C := RX10) rfl q820 (show h (ad 19 y9 0) = some (pO 8 [.ref (ad 20 y9 0), .ref (ad 21 y9 0), va_rf (if σ.2 32 y9 = -1 then none else some (ad 24 y9 0)), IV (σ.2 21 y9)]) from hR.at 19 y9 0 ⟨hz, hy19, rfl⟩) dX9_boxOf_18 ?_
  refine j_aret (pc := 21) rfl (by first | exact Or.inl ⟨_, rfl⟩ | exact Or.inr ⟨_, rfl⟩) (hQ _ _ ?_) dX9_boxOf_21
  exact ⟨rfl, rfl⟩

theorem fa_X9_18_X9 : FA RX9 18 7 5 := ⟨RX9, TX9, 10, "BallotFoundry$Election", rfl, in_X9, by decide, q723, Or.inl rfl⟩
theorem md_yX9_boxOf : MD yX9_boxOf 1 := by decide +kernel
theorem fa_X9_95_X10 : FA RX9 95 8 0 := ⟨RX10, TX10, 4, "BallotFoundry$Box", rfl, in_X10, by decide, q786, Or.inl rfl⟩
theorem fa_X9_98_X11 : FA RX9 98 9 1 := ⟨RX11, TX11, 3, "BallotFoundry$Envelope", rfl, in_X11, by decide, q890, Or.inl rfl⟩
theorem md_yJ17_valueOf : MD yJ17_valueOf 1 := by decide +kernel
theorem fa_X9_39_X9 : FA RX9 39 7 0 := ⟨RX9, TX9, 10, "BallotFoundry$Election", rfl, in_X9, by decide, q712, Or.inl rfl⟩
set_option maxHeartbeats 4000000 in
theorem c_xopen {Γ : GG} {A : Nat → Prop} {K : KK} {l : Launch} (h : AL2) (hke : KE Γ A K) (hfe : FE Γ) (hbe : BE Γ A K) (hko8 : KO Γ RX8) (o : Nat) (ad : AD) (σ : MM) (hR : Rel K h o ad σ) (hB : Bd σ) (hz : σ.1 14 ≠ 0) (j : Nat) (hj : (j : Int) < σ.1 26) (x9 : Nat) (hx : x9 = (σ.2 23 j).toNat) (hp : (x9 : Int) < σ.1 9) (y9 : Nat) (hy : σ.2 20 x9 = (y9 : Int)) (hy19 : (y9 : Int) < σ.1 19) (h28 : σ.2 28 y9 ≤ 19) (hn : σ.1 42 ≤ 250) (s9 : Int) (hs : narrow .char (IV s9) = IV s9 ∧ fits .char (IV s9) = true) : Ct Γ A (Rep2 Γ A K) l yX9_open (ws_ yX9_open cX9_open 3 none) 11 4 600 [.ref (ad 12 0 0), .ref (ad 25 j 0), IV s9] h (qV (fun (h' : AL2) => ∃ ad', (∀ k i j, k ≠ 26 → ad' k i j = ad k i j) ∧ Rel K h' o ad' (sNote (sCasts (setA σ 25 j 2) (σ.2 23 j) (σ.2 24 j)) (σ.1 15) s9 (σ.2 23 j)))) X0 := by
  refine Ct.ofJ (own := RX9) (nm := "open") (lo := [some (.ref (ad 12 0 0)), some (.ref (ad 25 j 0)), some (IV s9)]) pn_X9 rfl rfl (List.forall_mem_cons.mpr ⟨rfl, (List.forall_mem_cons.mpr ⟨rfl, (List.forall_mem_cons.mpr ⟨rfl, (fun _ h => nomatch h)⟩)⟩)⟩) (Nat.le_of_ble_eq_true rfl) rfl ?_
  have hQ : ∀ (h' : AL2), (∃ ad', (∀ k i j, k ≠ 26 → ad' k i j = ad k i j) ∧ Rel K h' o ad' (sNote (sCasts (setA σ 25 j 2) (σ.2 23 j) (σ.2 24 j)) (σ.1 15) s9 (σ.2 23 j))) → (qV (fun (h' : AL2) => ∃ ad', (∀ k i j, k ≠ 26 → ad' k i j = ad k i j) ∧ Rel K h' o ad' (sNote (sCasts (setA σ 25 j 2) (σ.2 23 j) (σ.2 24 j)) (σ.1 15) s9 (σ.2 23 j)))) none h' := fun h' h => ⟨rfl, h⟩
  generalize (qV (fun (h' : AL2) => ∃ ad', (∀ k i j, k ≠ 26 → ad' k i j = ad k i j) ∧ Rel K h' o ad' (sNote (sCasts (setA σ 25 j 2) (σ.2 23 j) (σ.2 24 j)) (σ.1 15) s9 (σ.2 23 j)))) = QP at hQ ⊢
  have n9 : 0 ≤ σ.1 9 ∧ σ.1 9 ≤ 20 := hB.1 9
  have n19 : 0 ≤ σ.1 19 ∧ σ.1 19 ≤ 5 := hB.1 19
  have n28 : 0 ≤ σ.2 28 y9 := (hB.2 28 y9).1
  refine j_aload_n (pc := 0) dX9_open_0 rfl ?_
  refine j_iconst (pc := 1) dX9_open_1 rfl ?_
  refine j2_put fp_X9_74_X11 (show h (ad 25 j 0) = some (pO 9 [.ref (ad 7 x9 0), IV (σ.2 24 j), IV (σ.2 25 j)]) from by rw [hx]; exact hR.at 25 j 0 ⟨hz, hj, rfl⟩) (by decide) (Nat.le_of_ble_eq_true rfl) rfl rfl dX9_open_2 (fun h_2 e_2 => ?_)
  have z_1 : h_2 (ad 25 j 0) = some (pO 9 [.ref (ad 7 x9 0), IV (σ.2 24 j), IV 2]) := by rw [e_2]; exact upH_self _ _ _
  have R_2 : Rel K h_2 o ad (setA σ 25 j 2) := hR.env hz hj (by rw [e_2, hx]; rfl)
  refine j_aload_n (pc := 5) dX9_open_5 rfl ?_
  refine j2_get fa_X9_18_X9 (show h_2 (ad 12 0 0) = some (pO 7 [IV (σ.1 15), IV (σ.1 16), IV (σ.1 17), .ref (ad 13 0 0), .ref (ad 14 0 0), .ref (ad 15 0 0), .ref (ad 16 0 0), .ref (ad 17 0 0), .ref (ad 18 0 0), IV (σ.1 14)]) from R_2.at 12 0 0 ⟨hz, rfl, rfl⟩) rfl dX9_open_6 ?_
  refine j_aload_n (pc := 9) dX9_open_9 rfl ?_
  refine j2_get fa_X9_70_X11 (show h_2 (ad 25 j 0) = some (pO 9 [.ref (ad 7 x9 0), IV (σ.2 24 j), IV (uA (σ.2 25) j 2 j)]) from by rw [hx]; exact R_2.at 25 j 0 ⟨hz, hj, rfl⟩) rfl dX9_open_10 ?_
  refine j2_get fa_X9_81_X4 (show h_2 (ad 7 x9 0) = some (pO 4 [IV ((x9 : Nat) : Int), IV (σ.2 7 x9), .ref (ad 9 x9 0), IV (σ.2 8 x9)]) from R_2.at 7 x9 0 ⟨hp, rfl⟩) rfl dX9_open_13 ?_
  refine j_iconst (pc := 16) dX9_open_16 rfl ?_
  refine j2_zast (i := ((x9 : Nat) : Int)) (show h_2 (ad 15 0 0) = some (pA 1 20 (σ.2 22)) from R_2.at 15 0 0 ⟨hz, rfl, rfl⟩) (by show 0 ≤ ((x9 : Nat) : Int) ∧ ((x9 : Nat) : Int) < ((20 : Nat) : Int); omega) (Or.inr rfl) dX9_open_17 (fun h_17 e_17 => ?_)
  have z_3 : h_17 (ad 15 0 0) = some (pA 1 20 (uA (σ.2 22) x9 1)) := by rw [e_17]; exact upH_self _ _ _
  have R_4 : Rel K h_17 o ad (setA (setA σ 25 j 2) 22 x9 1) := R_2.voted hz e_17
  refine j_aload_n (pc := 18) dX9_open_18 rfl ?_
  refine j_aload_n (pc := 19) dX9_open_19 rfl ?_
  refine j2_get fa_X9_70_X11 (show h_17 (ad 25 j 0) = some (pO 9 [.ref (ad 7 x9 0), IV (σ.2 24 j), IV (uA (σ.2 25) j 2 j)]) from by rw [hx]; exact R_4.at 25 j 0 ⟨hz, hj, rfl⟩) rfl dX9_open_20 ?_
  refine j_callV (pc := 23) (c_boxOf h_17 hfe o ad (setA (setA σ 25 j 2) 22 x9 1) R_4 ((hB.a (by show (0 : Int) ≤ 2 ∧ (2 : Int) ≤ 2; decide)).a (by show (0 : Int) ≤ 1 ∧ (1 : Int) ≤ 1; decide)) hz x9 (by show (((x9) : Nat) : Int) < σ.1 9; omega) y9 hy hy19) (lw_V q816 q817 q818 q69 q819) rfl md_yX9_boxOf (RC.of2 (show h_17 (ad 12 0 0) = some (pO 7 [IV (σ.1 15), IV (σ.1 16), IV (σ.1 17), .ref (ad 13 0 0), .ref (ad 14 0 0), .ref (ad 15 0 0), .ref (ad 16 0 0), .ref (ad 17 0 0), .ref (ad 18 0 0), IV (σ.1 14)]) from R_4.at 12 0 0 ⟨hz, rfl, rfl⟩) rfl) (by decide) (by decide) rfl (Nat.le_of_ble_eq_true rfl) dX9_open_23 (qR.k (fun r_23 s_23 q_23 => ?_))
  obtain ⟨e1q_23, e2q_23⟩ := q_23
  subst r_23
  subst s_23
  refine j2_get fa_X9_95_X10 (show h_17 (ad 19 y9 0) = some (pO 8 [.ref (ad 20 y9 0), .ref (ad 21 y9 0), va_rf (if σ.2 32 y9 = -1 then none else some (ad 24 y9 0)), IV (σ.2 21 y9)]) from R_4.at 19 y9 0 ⟨hz, hy19, rfl⟩) rfl dX9_open_26 ?_
  refine j_aload_n (pc := 29) dX9_open_29 rfl ?_
  refine j2_get fa_X9_98_X11 (show h_17 (ad 25 j 0) = some (pO 9 [.ref (ad 7 x9 0), IV (σ.2 24 j), IV (uA (σ.2 25) j 2 j)]) from by rw [hx]; exact R_4.at 25 j 0 ⟨hz, hj, rfl⟩) rfl dX9_open_30 ?_
  have n_5 : 0 ≤ σ.2 24 j ∧ σ.2 24 j ≤ 5 := hB.2 24 j
  refine j_callS (pc := 33) (k_valueOf h_17 hbe (σ.2 24 j) (by have h7 : 0 ≤ σ.2 24 j ∧ σ.2 24 j ≤ 5 := hB.2 24 j; omega)) (lw_S q821 q822 q72 q823) md_yJ17_valueOf (by decide) (by decide) rfl (Nat.le_of_ble_eq_true rfl) dX9_open_33 (qR.k (fun r_33 s_33 q_33 => ?_))
  obtain ⟨e1q_33, e2q_33⟩ := q_33
  subst r_33
  subst s_33
  refine j_room (cl' := 3 + 1) (sl' := 540 + 60) (by omega) (by omega) ?_
  refine j_callF (pc := 36) (xm := ⟨"java/util/List", "add", "(Ljava/lang/Object;)Z"⟩) (l2_add hke (show h_17 (ad 20 y9 0) = some (pL (rg (σ.2 28 y9) (fun n => bx K (σ.2 27 (20 * y9 + n))))) from R_4.at 20 y9 0 ⟨hz, hy19, rfl⟩) hbe.2.2.2.2.2 (hbe.el (by have h7 : 0 ≤ σ.2 24 j ∧ σ.2 24 j ≤ 5 := hB.2 24 j; omega) _) (fun z hz9 => by obtain ⟨i9, h9, rfl⟩ := mem_rg hz9; exact hbe.el (by have h8 : 0 ≤ σ.2 27 (20 * y9 + i9) ∧ σ.2 27 (20 * y9 + i9) ≤ 5 := hB.2 27 (20 * y9 + i9); show 0 ≤ σ.2 27 (20 * y9 + i9) ∧ σ.2 27 (20 * y9 + i9) ≤ 127; omega) _) (by have h9 := fun f => rg_len (n := σ.2 28 y9) (by have h6 : 0 ≤ σ.2 28 y9 ∧ σ.2 28 y9 ≤ 20 := hB.2 28 y9; omega) f; have h8 := h9 (fun n => bx K (σ.2 27 (20 * y9 + n))); have h6 : 0 ≤ σ.2 28 y9 ∧ σ.2 28 y9 ≤ 20 := hB.2 28 y9; omega) 60 (by have h9 := fun f => rg_len (n := σ.2 28 y9) (by have h6 : 0 ≤ σ.2 28 y9 ∧ σ.2 28 y9 ≤ 20 := hB.2 28 y9; omega) f; have h8 := h9 (fun n => bx K (σ.2 27 (20 * y9 + n))); have h6 : 0 ≤ σ.2 28 y9 ∧ σ.2 28 y9 ≤ 20 := hB.2 28 y9; omega)) (lw_F q676 q480 q482 q47 q484) hfe.2.2.2.1 (ci := 2) rfl rfl mdx_yJ2_add (RC.ofL (show h_17 (ad 20 y9 0) = some (pL (rg (σ.2 28 y9) (fun n => bx K (σ.2 27 (20 * y9 + n))))) from R_4.at 20 y9 0 ⟨hz, hy19, rfl⟩)) (by decide) (by decide) rfl (Nat.le_of_ble_eq_true rfl) dX9_open_36 (qI.k (fun r_36 s_36 q_36 => ?_))
  obtain ⟨e1q_36, e2q_36⟩ := q_36
  subst r_36
  have R_6 : Rel K s_36 o ad (setA (setA (setA (setA σ 25 j 2) 22 x9 1) 27 (20 * (y9 : Int) + σ.2 28 y9).toNat (σ.2 24 j)) 28 y9 (σ.2 28 y9 + 1)) := R_4.ballot ((hB.a (by show (0 : Int) ≤ 2 ∧ (2 : Int) ≤ 2; decide)).a (by show (0 : Int) ≤ 1 ∧ (1 : Int) ≤ 1; decide)) hz hy19 h28 e2q_36
  refine j_pop (pc := 41) dX9_open_41 rfl ?_
  refine j_aload_n (pc := 42) dX9_open_42 rfl ?_
  refine j_aload_n (pc := 43) dX9_open_43 rfl ?_
  refine j2_get fa_X9_39_X9 (show s_36 (ad 12 0 0) = some (pO 7 [IV (σ.1 15), IV (σ.1 16), IV (σ.1 17), .ref (ad 13 0 0), .ref (ad 14 0 0), .ref (ad 15 0 0), .ref (ad 16 0 0), .ref (ad 17 0 0), .ref (ad 18 0 0), IV (σ.1 14)]) from R_6.at 12 0 0 ⟨hz, rfl, rfl⟩) rfl dX9_open_44 ?_
  have n_7 : 0 ≤ σ.1 15 ∧ σ.1 15 ≤ 2000 := hB.1 15
  refine j_iload_n (pc := 47) dX9_open_47 rfl ?_
  refine j_aload_n (pc := 48) dX9_open_48 rfl ?_
  refine j2_get fa_X9_70_X11 (show s_36 (ad 25 j 0) = some (pO 9 [.ref (ad 7 x9 0), IV (σ.2 24 j), IV (uA (σ.2 25) j 2 j)]) from by rw [hx]; exact R_6.at 25 j 0 ⟨hz, hj, rfl⟩) rfl dX9_open_49 ?_
  refine j2_get fa_X9_81_X4 (show s_36 (ad 7 x9 0) = some (pO 4 [IV ((x9 : Nat) : Int), IV (σ.2 7 x9), .ref (ad 9 x9 0), IV (σ.2 8 x9)]) from R_6.at 7 x9 0 ⟨hp, rfl⟩) rfl dX9_open_52 ?_
  refine j_room (cl' := 1 + 2) (sl' := 20 + 520) (by omega) (by omega) ?_
  refine j_callV (pc := 55) (c_note s_36 hke hfe hko8 o ad (setA (setA (setA (setA σ 25 j 2) 22 x9 1) 27 (20 * (y9 : Int) + σ.2 28 y9).toNat (σ.2 24 j)) 28 y9 (σ.2 28 y9 + 1)) R_6 ((((hB.a (by show (0 : Int) ≤ 2 ∧ (2 : Int) ≤ 2; decide)).a (by show (0 : Int) ≤ 1 ∧ (1 : Int) ≤ 1; decide)).a (by show (0 : Int) ≤ σ.2 24 j ∧ σ.2 24 j ≤ 5; exact hB.2 24 j)).a (by show (0 : Int) ≤ σ.2 28 y9 + 1 ∧ σ.2 28 y9 + 1 ≤ 20; omega)) hz (by show σ.1 42 ≤ 250; omega) (σ.1 15) s9 ((x9 : Nat) : Int) hs) (lw_V q647 q648 q649 q69 q650) rfl md_yX9_note (RC.of2 (show s_36 (ad 12 0 0) = some (pO 7 [IV (σ.1 15), IV (σ.1 16), IV (σ.1 17), .ref (ad 13 0 0), .ref (ad 14 0 0), .ref (ad 15 0 0), .ref (ad 16 0 0), .ref (ad 17 0 0), .ref (ad 18 0 0), IV (σ.1 14)]) from R_6.at 12 0 0 ⟨hz, rfl, rfl⟩) rfl) (by decide) (by decide) rfl (Nat.le_of_ble_eq_true rfl) dX9_open_55 (qV.k (fun s_55 q_55 => ?_))
  obtain ⟨ad_55, hk_55, R_n55⟩ := q_55
  refine j_vret (pc := 58) rfl (hQ _ ?_) dX9_open_58
  have e23 : σ.2 23 j = (x9 : Int) := by have := (hB.2 23 j).1; have e9 : bLo 23 = 0 := rfl; omega
  exact ⟨ad_55, hk_55, by rw [e23, sCasts_eq (σ := setA σ 25 j 2) hy]; exact R_n55⟩

theorem md_yX1_envelopes : MD yX1_envelopes 0 := by decide +kernel
set_option maxHeartbeats 4000000 in
theorem c_envelope {Γ : GG} {A : Nat → Prop} {K : KK} {l : Launch} (h : AL2) (hfl : l.stackTraces = false) (hke : KE Γ A K) (hfe : FE Γ) (hIOB : TH5 Γ A "java/lang/IndexOutOfBoundsException") (o : Nat) (ad : AD) (σ : MM) (hR : Rel K h o ad σ) (hB : Bd σ) (hI : In σ) (e : Int) (he : RR e) : Ct Γ A (Rep2 Γ A K) l yX1_envelope (ws_ yX1_envelope cX1_envelope 2 (some (.object "BallotFoundry$Envelope"))) 8 3 14 [.ref o, IV e] h (qR (fun (r : Nat) (h' : AL2) => (0 ≤ e ∧ e ≤ σ.1 26 - 1) ∧ r = ad 25 e.toNat 0 ∧ Rel K h' o ad σ)) (fun (E : String) (h' : AL2) => E = "java/lang/IndexOutOfBoundsException" ∧ ¬ (0 ≤ e ∧ e ≤ σ.1 26 - 1) ∧ Rel K h' o ad σ) := by
  refine Ct.ofJ (own := RX1) (nm := "envelope") (lo := [some (.ref o), some (IV e)]) pn_X1 rfl rfl (List.forall_mem_cons.mpr ⟨rfl, (List.forall_mem_cons.mpr ⟨rfl, (fun _ h => nomatch h)⟩)⟩) (Nat.le_of_ble_eq_true rfl) rfl ?_
  have hQ : ∀ (r : Nat) (h' : AL2), ((0 ≤ e ∧ e ≤ σ.1 26 - 1) ∧ r = ad 25 e.toNat 0 ∧ Rel K h' o ad σ) → (qR (fun (r : Nat) (h' : AL2) => (0 ≤ e ∧ e ≤ σ.1 26 - 1) ∧ r = ad 25 e.toNat 0 ∧ Rel K h' o ad σ)) (some (.ref r)) h' := fun r h' h => ⟨r, rfl, h⟩
  generalize (qR (fun (r : Nat) (h' : AL2) => (0 ≤ e ∧ e ≤ σ.1 26 - 1) ∧ r = ad 25 e.toNat 0 ∧ Rel K h' o ad σ)) = QP at hQ ⊢
  have hX : ∀ (E : String) (h' : AL2), (E = "java/lang/IndexOutOfBoundsException" ∧ ¬ (0 ≤ e ∧ e ≤ σ.1 26 - 1) ∧ Rel K h' o ad σ) → (fun (E : String) (h' : AL2) => E = "java/lang/IndexOutOfBoundsException" ∧ ¬ (0 ≤ e ∧ e ≤ σ.1 26 - 1) ∧ Rel K h' o ad σ) E h' := fun E h' h => h
  generalize (fun (E : String) (h' : AL2) => E = "java/lang/IndexOutOfBoundsException" ∧ ¬ (0 ≤ e ∧ e ≤ σ.1 26 - 1) ∧ Rel K h' o ad σ) = XP at hX ⊢
  have n26 : 0 ≤ σ.1 26 ∧ σ.1 26 ≤ 60 := hB.1 26
  refine j_iconst (pc := 0) dX1_envelope_0 rfl ?_
  refine j_room (cl' := 2 + 1) (sl' := 12 + 2) (by omega) (by omega) ?_
  refine j2_newa (i := 2) (N := 2) (atype := .int) hke.1 (Or.inl ⟨rfl, rfl⟩) q141 (by omega) (by omega) (by omega) dX1_envelope_1 (fun a_1 h_1 n_1 e_1 => ?_)
  have z_1 : h_1 a_1 = some (pA 0 2 (fun _ => 0)) := by rw [e_1]; exact upH_self _ _ _
  have fo_a_1 : ∀ k i j, live σ k i j → ad k i j ≠ a_1 := fun k i j hl => hR.fresh n_1 hl
  have R_2 : Rel K h_1 o ad σ := hR.other (fun b c hb => by rw [e_1]; exact upH_old hb n_1)
  refine j_dup (pc := 3) dX1_envelope_3 rfl ?_
  refine j_iconst (pc := 4) dX1_envelope_4 rfl ?_
  refine j_iload_n (pc := 5) dX1_envelope_5 rfl ?_
  refine j2_iast (i := 0) z_1 (by show 0 ≤ 0 ∧ 0 < ((2 : Nat) : Int); omega) dX1_envelope_6 (fun h_6 e_6 => ?_)
  have z_3 : h_6 a_1 = some (pA 0 2 (uA (fun _ => 0) 0 e)) := by rw [e_6]; exact upH_self _ _ _
  have R_4 : Rel K h_6 o ad σ := R_2.off e_6 fo_a_1
  refine j_dup (pc := 7) dX1_envelope_7 rfl ?_
  refine j_iconst (pc := 8) dX1_envelope_8 rfl ?_
  refine j_aload_n (pc := 9) dX1_envelope_9 rfl ?_
  refine j_callV (pc := 10) (c_envelopes h_6 hfe o ad σ R_4 hB hI) (lw_V q978 q151 q152 q44 q153) rfl md_yX1_envelopes (RC.of2 (show h_6 (o) = some (pO 0 [.ref (ad 1 0 0), .ref (ad 2 0 0), .ref (ad 3 0 0), .ref (ad 4 0 0), va_rf (if σ.1 14 = 0 then none else some (ad 12 0 0)), IV (σ.1 0), .ref (ad 5 0 0), .ref (ad 6 0 0)]) from R_4.top) rfl) (by decide) (by decide) rfl (Nat.le_of_ble_eq_true rfl) dX1_envelope_10 (qI.k (fun r_10 s_10 q_10 => ?_))
  obtain ⟨e1q_10, e2q_10⟩ := q_10
  subst r_10
  subst s_10
  refine j2_iast (i := 1) z_3 (by show 0 ≤ 1 ∧ 1 < ((2 : Nat) : Int); omega) dX1_envelope_13 (fun h_13 e_13 => ?_)
  have z_5 : h_13 a_1 = some (pA 0 2 (uA (uA (fun _ => 0) 0 e) 1 (σ.1 26))) := by rw [e_13]; exact upH_self _ _ _
  have R_6 : Rel K h_13 o ad σ := R_4.off e_13 fo_a_1
  refine j_room (cl' := 1 + 1) (sl' := 6 + 6) (by omega) (by omega) ?_
  refine j_callSx (pc := 14) (c_exist h_13 hfl RG.of2 hIOB a_1 1 (uA (uA (fun _ => 0) 0 e) 1 (σ.1 26)) (rrA (rrA rr0 (by omega)) (by omega)) (by decide) z_5) (lw_S q370 q371 q44 q372) md_yX1_exist (nT _) (fun E x9 hx9 => by obtain ⟨rfl, hn9, rfl⟩ := hx9; rw [ex1] at hn9; exact hX _ _ ⟨rfl, by omega, R_6⟩) (by decide) (by decide) rfl (Nat.le_of_ble_eq_true rfl) dX1_envelope_14 (qV.k (fun s_14 q_14 => ?_))
  obtain ⟨q_14a, q_14e⟩ := q_14
  subst s_14
  have q_14b := ex1.mp q_14a
  have hz : σ.1 14 ≠ 0 := fun z => by have := (hI.s1 (by omega)).2.1; omega
  refine j_aload_n (pc := 17) dX1_envelope_17 rfl ?_
  refine j2_get fa_X1_58_X1 (show h_13 (o) = some (pO 0 [.ref (ad 1 0 0), .ref (ad 2 0 0), .ref (ad 3 0 0), .ref (ad 4 0 0), .ref (ad 12 0 0), IV (σ.1 0), .ref (ad 5 0 0), .ref (ad 6 0 0)]) from R_6.top1 hz) rfl dX1_envelope_18 ?_
  refine j2_get fa_X1_193_X9 (show h_13 (ad 12 0 0) = some (pO 7 [IV (σ.1 15), IV (σ.1 16), IV (σ.1 17), .ref (ad 13 0 0), .ref (ad 14 0 0), .ref (ad 15 0 0), .ref (ad 16 0 0), .ref (ad 17 0 0), .ref (ad 18 0 0), IV (σ.1 14)]) from R_6.at 12 0 0 ⟨hz, rfl, rfl⟩) rfl dX1_envelope_21 ?_
  refine j_iload_n (pc := 24) dX1_envelope_24 rfl ?_
  refine j_callF (pc := 25) (xm := ⟨"java/util/List", "get", "(I)Ljava/lang/Object;"⟩) (l2_get (show h_13 (ad 17 0 0) = some (pL (rg (σ.1 26) (fun q => ad 25 q 0))) from R_6.at 17 0 0 ⟨hz, rfl, rfl⟩) (i := e) (v := ad 25 (e).toNat 0) (by omega) (rg_at (by omega) (by omega))) (lw_F q551 q185 q187 q47 q189) hfe.2.2.1 (ci := 2) rfl rfl mdx_yJ2_get (RC.ofL (show h_13 (ad 17 0 0) = some (pL (rg (σ.1 26) (fun q => ad 25 q 0))) from R_6.at 17 0 0 ⟨hz, rfl, rfl⟩)) (by decide) (by decide) rfl (Nat.le_of_ble_eq_true rfl) dX1_envelope_25 (qR.k (fun r_25 s_25 q_25 => ?_))
  obtain ⟨e1q_25, e2q_25⟩ := q_25
  subst r_25
  subst s_25
  obtain ⟨x9, hx9⟩ : ∃ x9 : Nat, x9 = (σ.2 23 e.toNat).toNat := ⟨_, rfl⟩
  refine j2_castS (C := RX11) rfl q880 (show h_13 (ad 25 (e).toNat 0) = some (pO 9 [.ref (ad 7 x9 0), IV (σ.2 24 (e).toNat), IV (σ.2 25 (e).toNat)]) from by rw [hx9]; exact R_6.at 25 (e).toNat 0 ⟨hz, (by omega), rfl⟩) dX1_envelope_30 ?_
  refine j_aret (pc := 33) rfl (by first | exact Or.inl ⟨_, rfl⟩ | exact Or.inr ⟨_, rfl⟩) (hQ _ _ ?_) dX1_envelope_33
  exact ⟨by omega, rfl, R_6⟩

theorem md_yX1_envelope : MD yX1_envelope 1 := by decide +kernel
theorem fa_X1_239_X11 : FA RX1 239 9 2 := ⟨RX11, TX11, 3, "BallotFoundry$Envelope", rfl, in_X11, by decide, q893, Or.inl rfl⟩
set_option maxHeartbeats 4000000 in
theorem c_stateOf {Γ : GG} {A : Nat → Prop} {K : KK} {l : Launch} (h : AL2) (hfl : l.stackTraces = false) (hke : KE Γ A K) (hfe : FE Γ) (hIOB : TH5 Γ A "java/lang/IndexOutOfBoundsException") (hIAE : TH5 Γ A "java/lang/IllegalArgumentException") (hISE : TH5 Γ A "java/lang/IllegalStateException") (o : Nat) (ad : AD) (σ : MM) (hR : Rel K h o ad σ) (hB : Bd σ) (e : Int) (he : RR e) (hI : In σ) : Ct Γ A (Rep2 Γ A K) l yX1_stateOf (ws_ yX1_stateOf cX1_stateOf 2 (some .int)) 10 3 14 [.ref o, IV e] h (qI (fun (r : Int) (h' : AL2) => t1 (0 ≤ e ∧ e ≤ σ.1 26 - 1) = 0 ∧ r = σ.2 25 e.toNat ∧ ∃ ad', Rel K h' o ad' (σ))) (fun (E : String) (h' : AL2) => xE ["java/lang/IndexOutOfBoundsException"] (t1 (0 ≤ e ∧ e ≤ σ.1 26 - 1)) E ∧ ∃ ad', Rel K h' o ad' σ) := by
  refine Ct.ofJ (own := RX1) (nm := "stateOf") (lo := [some (.ref o), some (IV e)]) pn_X1 rfl rfl (List.forall_mem_cons.mpr ⟨rfl, (List.forall_mem_cons.mpr ⟨rfl, (fun _ h => nomatch h)⟩)⟩) (Nat.le_of_ble_eq_true rfl) rfl ?_
  have hQ : ∀ (r : Int) (h' : AL2), (t1 (0 ≤ e ∧ e ≤ σ.1 26 - 1) = 0 ∧ r = σ.2 25 e.toNat ∧ ∃ ad', Rel K h' o ad' (σ)) → (qI (fun (r : Int) (h' : AL2) => t1 (0 ≤ e ∧ e ≤ σ.1 26 - 1) = 0 ∧ r = σ.2 25 e.toNat ∧ ∃ ad', Rel K h' o ad' (σ))) (some (IV r)) h' := fun r h' h => ⟨r, rfl, h⟩
  generalize (qI (fun (r : Int) (h' : AL2) => t1 (0 ≤ e ∧ e ≤ σ.1 26 - 1) = 0 ∧ r = σ.2 25 e.toNat ∧ ∃ ad', Rel K h' o ad' (σ))) = QP at hQ ⊢
  have hX : ∀ (E : String) (h' : AL2), (xE ["java/lang/IndexOutOfBoundsException"] (t1 (0 ≤ e ∧ e ≤ σ.1 26 - 1)) E ∧ ∃ ad', Rel K h' o ad' σ) → (fun (E : String) (h' : AL2) => xE ["java/lang/IndexOutOfBoundsException"] (t1 (0 ≤ e ∧ e ≤ σ.1 26 - 1)) E ∧ ∃ ad', Rel K h' o ad' σ) E h' := fun E h' h => h
  generalize (fun (E : String) (h' : AL2) => xE ["java/lang/IndexOutOfBoundsException"] (t1 (0 ≤ e ∧ e ≤ σ.1 26 - 1)) E ∧ ∃ ad', Rel K h' o ad' σ) = XP at hX ⊢
  have n26 : 0 ≤ σ.1 26 ∧ σ.1 26 ≤ 60 := hB.1 26
  refine j_aload_n (pc := 0) dX1_stateOf_0 rfl ?_
  refine j_iload_n (pc := 1) dX1_stateOf_1 rfl ?_
  refine j_room (cl' := 0 + 3) (sl' := 0 + 14) (by omega) (by omega) ?_
  refine j_callVx (pc := 2) (c_envelope h hfl hke hfe hIOB o ad σ hR hB hI e (by omega)) (lw_V q974 q976 qs18 q44 q977) rfl md_yX1_envelope (RC.of2 (show h (o) = some (pO 0 [.ref (ad 1 0 0), .ref (ad 2 0 0), .ref (ad 3 0 0), .ref (ad 4 0 0), va_rf (if σ.1 14 = 0 then none else some (ad 12 0 0)), IV (σ.1 0), .ref (ad 5 0 0), .ref (ad 6 0 0)]) from hR.top) rfl) (nT _) (fun E x9 hx9 => by obtain ⟨rfl, hn9, hR9⟩ := hx9; exact hX _ _ ⟨xE_of 0 (by unfold t1; (repeat' split) <;> omega) rfl, ad, hR9⟩) (by decide) (by decide) rfl (Nat.le_of_ble_eq_true rfl) dX1_stateOf_2 (qR.k (fun r_2 s_2 q_2 => ?_))
  obtain ⟨q_2p, q_2e, q_2R⟩ := q_2
  subst r_2
  have hz : σ.1 14 ≠ 0 := fun z => by have := (hI.s1 (by omega)).2.1; omega
  obtain ⟨x9, hx9⟩ : ∃ x9 : Nat, x9 = (σ.2 23 e.toNat).toNat := ⟨_, rfl⟩
  have h23 := hI.2.2.2.2.2.1 e.toNat (by omega)
  have b23 : 0 ≤ σ.2 23 e.toNat := (hB.2 23 _).1
  refine j2_get fa_X1_239_X11 (show s_2 (ad 25 (e).toNat 0) = some (pO 9 [.ref (ad 7 x9 0), IV (σ.2 24 (e).toNat), IV (σ.2 25 (e).toNat)]) from by rw [hx9]; exact q_2R.at 25 (e).toNat 0 ⟨hz, (by omega), rfl⟩) rfl dX1_stateOf_5 ?_
  have n_1 : 0 ≤ σ.2 25 (e).toNat ∧ σ.2 25 (e).toNat ≤ 2 := hB.2 25 ((e).toNat)
  refine j_iret (pc := 8) rfl (hQ _ _ ?_) dX1_stateOf_8
  exact ⟨by unfold t1; (repeat' split) <;> omega, rfl, ad, q_2R⟩

theorem fa_X1_242_X11 : FA RX1 242 9 0 := ⟨RX11, TX11, 3, "BallotFoundry$Envelope", rfl, in_X11, by decide, q888, Or.inl rfl⟩
set_option maxHeartbeats 4000000 in
theorem c_personOf {Γ : GG} {A : Nat → Prop} {K : KK} {l : Launch} (h : AL2) (hfl : l.stackTraces = false) (hke : KE Γ A K) (hfe : FE Γ) (hIOB : TH5 Γ A "java/lang/IndexOutOfBoundsException") (hIAE : TH5 Γ A "java/lang/IllegalArgumentException") (hISE : TH5 Γ A "java/lang/IllegalStateException") (o : Nat) (ad : AD) (σ : MM) (hR : Rel K h o ad σ) (hB : Bd σ) (e : Int) (he : RR e) (hI : In σ) : Ct Γ A (Rep2 Γ A K) l yX1_personOf (ws_ yX1_personOf cX1_personOf 2 (some .int)) 10 3 14 [.ref o, IV e] h (qI (fun (r : Int) (h' : AL2) => t1 (0 ≤ e ∧ e ≤ σ.1 26 - 1) = 0 ∧ r = σ.2 23 e.toNat ∧ ∃ ad', Rel K h' o ad' (σ))) (fun (E : String) (h' : AL2) => xE ["java/lang/IndexOutOfBoundsException"] (t1 (0 ≤ e ∧ e ≤ σ.1 26 - 1)) E ∧ ∃ ad', Rel K h' o ad' σ) := by
  refine Ct.ofJ (own := RX1) (nm := "personOf") (lo := [some (.ref o), some (IV e)]) pn_X1 rfl rfl (List.forall_mem_cons.mpr ⟨rfl, (List.forall_mem_cons.mpr ⟨rfl, (fun _ h => nomatch h)⟩)⟩) (Nat.le_of_ble_eq_true rfl) rfl ?_
  have hQ : ∀ (r : Int) (h' : AL2), (t1 (0 ≤ e ∧ e ≤ σ.1 26 - 1) = 0 ∧ r = σ.2 23 e.toNat ∧ ∃ ad', Rel K h' o ad' (σ)) → (qI (fun (r : Int) (h' : AL2) => t1 (0 ≤ e ∧ e ≤ σ.1 26 - 1) = 0 ∧ r = σ.2 23 e.toNat ∧ ∃ ad', Rel K h' o ad' (σ))) (some (IV r)) h' := fun r h' h => ⟨r, rfl, h⟩
  generalize (qI (fun (r : Int) (h' : AL2) => t1 (0 ≤ e ∧ e ≤ σ.1 26 - 1) = 0 ∧ r = σ.2 23 e.toNat ∧ ∃ ad', Rel K h' o ad' (σ))) = QP at hQ ⊢
  have hX : ∀ (E : String) (h' : AL2), (xE ["java/lang/IndexOutOfBoundsException"] (t1 (0 ≤ e ∧ e ≤ σ.1 26 - 1)) E ∧ ∃ ad', Rel K h' o ad' σ) → (fun (E : String) (h' : AL2) => xE ["java/lang/IndexOutOfBoundsException"] (t1 (0 ≤ e ∧ e ≤ σ.1 26 - 1)) E ∧ ∃ ad', Rel K h' o ad' σ) E h' := fun E h' h => h
  generalize (fun (E : String) (h' : AL2) => xE ["java/lang/IndexOutOfBoundsException"] (t1 (0 ≤ e ∧ e ≤ σ.1 26 - 1)) E ∧ ∃ ad', Rel K h' o ad' σ) = XP at hX ⊢
  have n26 : 0 ≤ σ.1 26 ∧ σ.1 26 ≤ 60 := hB.1 26
  refine j_aload_n (pc := 0) dX1_personOf_0 rfl ?_
  refine j_iload_n (pc := 1) dX1_personOf_1 rfl ?_
  refine j_room (cl' := 0 + 3) (sl' := 0 + 14) (by omega) (by omega) ?_
  refine j_callVx (pc := 2) (c_envelope h hfl hke hfe hIOB o ad σ hR hB hI e (by omega)) (lw_V q974 q976 qs18 q44 q977) rfl md_yX1_envelope (RC.of2 (show h (o) = some (pO 0 [.ref (ad 1 0 0), .ref (ad 2 0 0), .ref (ad 3 0 0), .ref (ad 4 0 0), va_rf (if σ.1 14 = 0 then none else some (ad 12 0 0)), IV (σ.1 0), .ref (ad 5 0 0), .ref (ad 6 0 0)]) from hR.top) rfl) (nT _) (fun E x9 hx9 => by obtain ⟨rfl, hn9, hR9⟩ := hx9; exact hX _ _ ⟨xE_of 0 (by unfold t1; (repeat' split) <;> omega) rfl, ad, hR9⟩) (by decide) (by decide) rfl (Nat.le_of_ble_eq_true rfl) dX1_personOf_2 (qR.k (fun r_2 s_2 q_2 => ?_))
  obtain ⟨q_2p, q_2e, q_2R⟩ := q_2
  subst r_2
  have hz : σ.1 14 ≠ 0 := fun z => by have := (hI.s1 (by omega)).2.1; omega
  obtain ⟨x9, hx9⟩ : ∃ x9 : Nat, x9 = (σ.2 23 e.toNat).toNat := ⟨_, rfl⟩
  have h23 := hI.2.2.2.2.2.1 e.toNat (by omega)
  have b23 : 0 ≤ σ.2 23 e.toNat := (hB.2 23 _).1
  refine j2_get fa_X1_242_X11 (show s_2 (ad 25 (e).toNat 0) = some (pO 9 [.ref (ad 7 x9 0), IV (σ.2 24 (e).toNat), IV (σ.2 25 (e).toNat)]) from by rw [hx9]; exact q_2R.at 25 (e).toNat 0 ⟨hz, (by omega), rfl⟩) rfl dX1_personOf_5 ?_
  refine j2_get fa_X1_178_X4 (show s_2 (ad 7 x9 0) = some (pO 4 [IV ((x9 : Nat) : Int), IV (σ.2 7 x9), .ref (ad 9 x9 0), IV (σ.2 8 x9)]) from q_2R.at 7 x9 0 ⟨(by omega), rfl⟩) rfl dX1_personOf_8 ?_
  refine j_iret (pc := 11) rfl (hQ _ _ ?_) dX1_personOf_11
  exact ⟨by unfold t1; (repeat' split) <;> omega, by omega, ad, q_2R⟩

theorem t3_mk {a b c : Prop} [Decidable a] [Decidable b] [Decidable c] (ha : a) (hb : b) (hc : c) : t3 a b c = 0 := by unfold t3; rw [if_pos ha, if_pos hb, if_pos hc]
theorem t3_3 {a b c : Prop} [Decidable a] [Decidable b] [Decidable c] (ha : a) (hb : b) (hc : ¬ c) : t3 a b c = 3 := by unfold t3; rw [if_pos ha, if_pos hb, if_neg hc]

theorem fn_X1_196_X11 : FN RX1 196 9 3 [.null, IV 0, IV 0] := ⟨RX11, TX11, tyX11, rfl, in_X11, tyX11_ok, q880, q881, q74, fun j hj => by rcases (show j = 0 ∨ j = 1 ∨ j = 2 by omega) with rfl | rfl | rfl <;> rfl⟩
theorem md_yX11_init : MD yX11_init 2 := by decide +kernel
set_option maxHeartbeats 4000000 in
theorem c_early {Γ : GG} {A : Nat → Prop} {K : KK} {l : Launch} (h : AL2) (hfl : l.stackTraces = false) (hke : KE Γ A K) (hfe : FE Γ) (hIOB : TH5 Γ A "java/lang/IndexOutOfBoundsException") (hIAE : TH5 Γ A "java/lang/IllegalArgumentException") (hISE : TH5 Γ A "java/lang/IllegalStateException") (o : Nat) (ad : AD) (σ : MM) (hR : Rel K h o ad σ) (hB : Bd σ) (p : Int) (hp : RR p) (v : Int) (hv : RR v) (hko8 : KO Γ RX8) (hko11 : KO Γ RX11) (hI : In σ) (hn : σ.1 42 ≤ 240) : Ct Γ A (Rep2 Γ A K) l yX1_early (ws_ yX1_early cX1_early 5 (some .int)) 13 12 1300 [.ref o, IV p, IV v] h (qI (fun (r : Int) (h' : AL2) => t3 (isP σ p) (0 ≤ v ∧ v ≤ 5) (σ.1 14 = 2 ∧ (σ.2 20 p.toNat ≠ -1 ∧ σ.2 8 p.toNat = 0) ∧ σ.1 26 < 60) = 0 ∧ r = σ.1 26 ∧ ∃ ad', Rel K h' o ad' (sNote (setI (setA (setA (setA (sVoids σ p) 23 (σ.1 26).toNat p) 24 (σ.1 26).toNat v) 25 (σ.1 26).toNat 0) 26 (σ.1 26 + 1)) (σ.1 0) 101 p))) (fun (E : String) (h' : AL2) => xE ["java/lang/IndexOutOfBoundsException", "java/lang/IllegalArgumentException", "java/lang/IllegalStateException"] (t3 (isP σ p) (0 ≤ v ∧ v ≤ 5) (σ.1 14 = 2 ∧ (σ.2 20 p.toNat ≠ -1 ∧ σ.2 8 p.toNat = 0) ∧ σ.1 26 < 60)) E ∧ ∃ ad', Rel K h' o ad' σ) := by
  refine Ct.ofJ (own := RX1) (nm := "early") (lo := [some (.ref o), some (IV p), some (IV v), none, none]) pn_X1 rfl rfl (List.forall_mem_cons.mpr ⟨rfl, (List.forall_mem_cons.mpr ⟨rfl, (List.forall_mem_cons.mpr ⟨rfl, (fun _ h => nomatch h)⟩)⟩)⟩) (Nat.le_of_ble_eq_true rfl) rfl ?_
  have hQ : ∀ (r : Int) (h' : AL2), (t3 (isP σ p) (0 ≤ v ∧ v ≤ 5) (σ.1 14 = 2 ∧ (σ.2 20 p.toNat ≠ -1 ∧ σ.2 8 p.toNat = 0) ∧ σ.1 26 < 60) = 0 ∧ r = σ.1 26 ∧ ∃ ad', Rel K h' o ad' (sNote (setI (setA (setA (setA (sVoids σ p) 23 (σ.1 26).toNat p) 24 (σ.1 26).toNat v) 25 (σ.1 26).toNat 0) 26 (σ.1 26 + 1)) (σ.1 0) 101 p)) → (qI (fun (r : Int) (h' : AL2) => t3 (isP σ p) (0 ≤ v ∧ v ≤ 5) (σ.1 14 = 2 ∧ (σ.2 20 p.toNat ≠ -1 ∧ σ.2 8 p.toNat = 0) ∧ σ.1 26 < 60) = 0 ∧ r = σ.1 26 ∧ ∃ ad', Rel K h' o ad' (sNote (setI (setA (setA (setA (sVoids σ p) 23 (σ.1 26).toNat p) 24 (σ.1 26).toNat v) 25 (σ.1 26).toNat 0) 26 (σ.1 26 + 1)) (σ.1 0) 101 p))) (some (IV r)) h' := fun r h' h => ⟨r, rfl, h⟩
  generalize (qI (fun (r : Int) (h' : AL2) => t3 (isP σ p) (0 ≤ v ∧ v ≤ 5) (σ.1 14 = 2 ∧ (σ.2 20 p.toNat ≠ -1 ∧ σ.2 8 p.toNat = 0) ∧ σ.1 26 < 60) = 0 ∧ r = σ.1 26 ∧ ∃ ad', Rel K h' o ad' (sNote (setI (setA (setA (setA (sVoids σ p) 23 (σ.1 26).toNat p) 24 (σ.1 26).toNat v) 25 (σ.1 26).toNat 0) 26 (σ.1 26 + 1)) (σ.1 0) 101 p))) = QP at hQ ⊢
  have hX : ∀ (E : String) (h' : AL2), (xE ["java/lang/IndexOutOfBoundsException", "java/lang/IllegalArgumentException", "java/lang/IllegalStateException"] (t3 (isP σ p) (0 ≤ v ∧ v ≤ 5) (σ.1 14 = 2 ∧ (σ.2 20 p.toNat ≠ -1 ∧ σ.2 8 p.toNat = 0) ∧ σ.1 26 < 60)) E ∧ ∃ ad', Rel K h' o ad' σ) → (fun (E : String) (h' : AL2) => xE ["java/lang/IndexOutOfBoundsException", "java/lang/IllegalArgumentException", "java/lang/IllegalStateException"] (t3 (isP σ p) (0 ≤ v ∧ v ≤ 5) (σ.1 14 = 2 ∧ (σ.2 20 p.toNat ≠ -1 ∧ σ.2 8 p.toNat = 0) ∧ σ.1 26 < 60)) E ∧ ∃ ad', Rel K h' o ad' σ) E h' := fun E h' h => h
  generalize (fun (E : String) (h' : AL2) => xE ["java/lang/IndexOutOfBoundsException", "java/lang/IllegalArgumentException", "java/lang/IllegalStateException"] (t3 (isP σ p) (0 ≤ v ∧ v ≤ 5) (σ.1 14 = 2 ∧ (σ.2 20 p.toNat ≠ -1 ∧ σ.2 8 p.toNat = 0) ∧ σ.1 26 < 60)) E ∧ ∃ ad', Rel K h' o ad' σ) = XP at hX ⊢
  have n9 : 0 ≤ σ.1 9 ∧ σ.1 9 ≤ 20 := hB.1 9
  have n26 : 0 ≤ σ.1 26 ∧ σ.1 26 ≤ 60 := hB.1 26
  have h23 : ∀ i : Nat, (i : Int) < σ.1 26 → 0 ≤ σ.2 23 i ∧ σ.2 23 i < σ.1 9 := fun i hi => ⟨(hB.2 23 i).1, (hI.2.2.2.2.2.1 i hi).1⟩
  refine j_aload_n (pc := 0) dX1_early_0 rfl ?_
  refine j_iload_n (pc := 1) dX1_early_1 rfl ?_
  refine j_room (cl' := 9 + 3) (sl' := 1286 + 14) (by omega) (by omega) ?_
  refine j_callVx (pc := 2) (c_find h hfl hke hfe hIOB o ad σ hR hB p (by omega)) (lw_V q614 q616 qs12 q44 q617) rfl md_yX1_find (RC.of2 (show h (o) = some (pO 0 [.ref (ad 1 0 0), .ref (ad 2 0 0), .ref (ad 3 0 0), .ref (ad 4 0 0), va_rf (if σ.1 14 = 0 then none else some (ad 12 0 0)), IV (σ.1 0), .ref (ad 5 0 0), .ref (ad 6 0 0)]) from hR.top) rfl) (nT _) (fun E x9 hx9 => by obtain ⟨rfl, hn9, hR9⟩ := hx9; exact hX _ _ ⟨xE_of 0 (by unfold t3; (repeat' split) <;> omega) rfl, ad, hR9⟩) (by decide) (by decide) rfl (Nat.le_of_ble_eq_true rfl) dX1_early_2 (qR.k (fun r_2 s_2 q_2 => ?_))
  obtain ⟨q_2p, q_2e, q_2R⟩ := q_2
  subst r_2
  refine j_astore_n (pc := 5) dX1_early_5 (by decide) (lo' := [some (.ref o), some (IV p), some (IV v), some (.ref (ad 7 (p).toNat 0)), none]) rfl ?_
  refine j_iload_n (pc := 6) dX1_early_6 rfl ?_
  refine j_callS (pc := 7) (c_isBallot s_2 v (by omega)) (lw_S q877 q878 q44 q879) md_yX1_isBallot (by decide) (by decide) rfl (Nat.le_of_ble_eq_true rfl) dX1_early_7 (qI.k (fun r_7 s_7 q_7 => ?_))
  obtain ⟨e1q_7, e2q_7⟩ := q_7
  subst r_7
  subst s_7
  refine j_room (cl' := 8 + 1) (sl' := 1280 + 6) (by omega) (by omega) ?_
  refine j_callSx (pc := 10) (c_want s_2 hfl RG.of2 hIAE (bI (0 ≤ v ∧ v ≤ 5)) (bI_01 _)) (lw_S q403 q404 q44 q405) md_yX1_want (nT _) (fun E x9 hx9 => by obtain ⟨hn9, rfl, rfl⟩ := hx9; (try have hn8 := bI_0 hn9); exact hX _ _ ⟨xE_of 1 (by unfold t3; (repeat' split) <;> omega) rfl, ad, q_2R⟩) (by decide) (by decide) rfl (Nat.le_of_ble_eq_true rfl) dX1_early_10 (qV.k (fun s_10 q_10 => ?_))
  obtain ⟨q_10b, q_10e⟩ := q_10
  subst s_10
  have q_10c := bI_1 q_10b
  refine j_aload_n (pc := 13) dX1_early_13 rfl ?_
  refine j_callV (pc := 14) (c_stage s_2 o ad σ q_2R hB) (lw_V q172 q147 q148 q44 q149) rfl md_yX1_stage (RC.of2 (show s_2 (o) = some (pO 0 [.ref (ad 1 0 0), .ref (ad 2 0 0), .ref (ad 3 0 0), .ref (ad 4 0 0), va_rf (if σ.1 14 = 0 then none else some (ad 12 0 0)), IV (σ.1 0), .ref (ad 5 0 0), .ref (ad 6 0 0)]) from q_2R.top) rfl) (by decide) (by decide) rfl (Nat.le_of_ble_eq_true rfl) dX1_early_14 (qI.k (fun r_14 s_14 q_14 => ?_))
  obtain ⟨e1q_14, e2q_14⟩ := q_14
  subst r_14
  subst s_14
  have n14_14 : 0 ≤ σ.1 14 ∧ σ.1 14 ≤ 5 := hB.1 14
  refine j_iconst (pc := 17) dX1_early_17 rfl ?_
  refine j_icmp_ne (pc := 18) (tgt := 57) dX1_early_18 (by decide) (by omega) (by decide) (fun c_18 => ?_) (fun c_18 => ?_)
  · refine j_iconst (pc := 57) dX1_early_57 rfl ?_
    refine j_room (cl' := 7 + 1) (sl' := 1274 + 6) (by omega) (by omega) ?_
    refine j_callSx (pc := 58) (c_allow s_2 hfl RG.of2 hISE 0 (Or.inl rfl)) (lw_S q443 q444 q44 q445) md_yX1_allow (nT _) (fun E x9 hx9 => by obtain ⟨hn9, rfl, rfl⟩ := hx9; (try have hn8 := bI_0 hn9); exact hX _ _ ⟨xE_of 2 (by unfold t3; (repeat' split) <;> omega) rfl, ad, q_2R⟩) (by decide) (by decide) rfl (Nat.le_of_ble_eq_true rfl) dX1_early_58 (qV.k (fun s_58 q_58 => ?_))
    exact absurd q_58.1 (by decide)
  · have hz : σ.1 14 ≠ 0 := by omega
    refine j_aload_n (pc := 21) dX1_early_21 rfl ?_
    refine j_aload_n (pc := 22) dX1_early_22 rfl ?_
    refine j_callV (pc := 23) (c_isRolled s_2 o ad σ q_2R hB hI (p).toNat (by omega)) (lw_V q848 q850 qs16 q44 q851) rfl md_yX1_isRolled (RC.of2 (show s_2 (o) = some (pO 0 [.ref (ad 1 0 0), .ref (ad 2 0 0), .ref (ad 3 0 0), .ref (ad 4 0 0), .ref (ad 12 0 0), IV (σ.1 0), .ref (ad 5 0 0), .ref (ad 6 0 0)]) from q_2R.top1 hz) rfl) (by decide) (by decide) rfl (Nat.le_of_ble_eq_true rfl) dX1_early_23 (qI.k (fun r_23 s_23 q_23 => ?_))
    obtain ⟨e1q_23, e2q_23⟩ := q_23
    subst r_23
    subst s_23
    refine j_ifb_eq (pc := 26) (tgt := 57) dX1_early_26 (by decide) (fun c_26 => ?_) (fun c_26 => ?_)
    · have hro := c_26
      refine j_iconst (pc := 57) dX1_early_57 rfl ?_
      refine j_room (cl' := 7 + 1) (sl' := 1274 + 6) (by omega) (by omega) ?_
      refine j_callSx (pc := 58) (c_allow s_2 hfl RG.of2 hISE 0 (Or.inl rfl)) (lw_S q443 q444 q44 q445) md_yX1_allow (nT _) (fun E x9 hx9 => by obtain ⟨hn9, rfl, rfl⟩ := hx9; (try have hn8 := bI_0 hn9); exact hX _ _ ⟨xE_of 2 (by unfold t3; (repeat' split) <;> omega) rfl, ad, q_2R⟩) (by decide) (by decide) rfl (Nat.le_of_ble_eq_true rfl) dX1_early_58 (qV.k (fun s_58_1 q_58_1 => ?_))
      exact absurd q_58_1.1 (by decide)
    · have hro := c_26
      refine j_aload_n (pc := 29) dX1_early_29 rfl ?_
      refine j2_get fa_X1_120_X4 (show s_2 (ad 7 (p).toNat 0) = some (pO 4 [IV (((p).toNat : Nat) : Int), IV (σ.2 7 (p).toNat), .ref (ad 9 (p).toNat 0), IV (σ.2 8 (p).toNat)]) from q_2R.at 7 (p).toNat 0 ⟨(by omega), rfl⟩) rfl dX1_early_30 ?_
      have n_1 : 0 ≤ σ.2 8 (p).toNat ∧ σ.2 8 (p).toNat ≤ 1 := hB.2 8 ((p).toNat)
      refine j_if_ne (pc := 33) (tgt := 57) dX1_early_33 (by decide) (by omega) (fun c_33 => ?_) (fun c_33 => ?_)
      · refine j_iconst (pc := 57) dX1_early_57 rfl ?_
        refine j_room (cl' := 7 + 1) (sl' := 1274 + 6) (by omega) (by omega) ?_
        refine j_callSx (pc := 58) (c_allow s_2 hfl RG.of2 hISE 0 (Or.inl rfl)) (lw_S q443 q444 q44 q445) md_yX1_allow (nT _) (fun E x9 hx9 => by obtain ⟨hn9, rfl, rfl⟩ := hx9; (try have hn8 := bI_0 hn9); exact hX _ _ ⟨xE_of 2 (by unfold t3; (repeat' split) <;> omega) rfl, ad, q_2R⟩) (by decide) (by decide) rfl (Nat.le_of_ble_eq_true rfl) dX1_early_58 (qV.k (fun s_58_1 q_58_1 => ?_))
        exact absurd q_58_1.1 (by decide)
      · refine j_aload_n (pc := 36) dX1_early_36 rfl ?_
        refine j2_get fa_X1_58_X1 (show s_2 (o) = some (pO 0 [.ref (ad 1 0 0), .ref (ad 2 0 0), .ref (ad 3 0 0), .ref (ad 4 0 0), .ref (ad 12 0 0), IV (σ.1 0), .ref (ad 5 0 0), .ref (ad 6 0 0)]) from q_2R.top1 hz) rfl dX1_early_37 ?_
        refine j2_get fa_X1_193_X9 (show s_2 (ad 12 0 0) = some (pO 7 [IV (σ.1 15), IV (σ.1 16), IV (σ.1 17), .ref (ad 13 0 0), .ref (ad 14 0 0), .ref (ad 15 0 0), .ref (ad 16 0 0), .ref (ad 17 0 0), .ref (ad 18 0 0), IV (σ.1 14)]) from q_2R.at 12 0 0 ⟨hz, rfl, rfl⟩) rfl dX1_early_40 ?_
        refine j_callF (pc := 43) (xm := ⟨"java/util/List", "size", "()I"⟩) (l2_size (show s_2 (ad 17 0 0) = some (pL (rg (σ.1 26) (fun q => ad 25 q 0))) from q_2R.at 17 0 0 ⟨hz, rfl, rfl⟩)) (lw_F q155 q159 q161 q47 q163) hfe.1 (ci := 2) rfl rfl mdx_yJ2_size (RC.ofL (show s_2 (ad 17 0 0) = some (pL (rg (σ.1 26) (fun q => ad 25 q 0))) from q_2R.at 17 0 0 ⟨hz, rfl, rfl⟩)) (by decide) (by decide) rfl (Nat.le_of_ble_eq_true rfl) dX1_early_43 (qI.k (fun r_43 s_43 q_43 => ?_))
        obtain ⟨e1q_43, e2q_43⟩ := q_43
        subst s_43
        rw [rg_len (by omega)] at e1q_43
        subst r_43
        refine j_bipush (pc := 48) (a := 60) dX1_early_48 (by decide) ?_
        refine j_icmp_ge (pc := 50) (tgt := 57) dX1_early_50 (by decide) (by omega) (by decide) (fun c_50 => ?_) (fun c_50 => ?_)
        · refine j_iconst (pc := 57) dX1_early_57 rfl ?_
          refine j_room (cl' := 7 + 1) (sl' := 1274 + 6) (by omega) (by omega) ?_
          refine j_callSx (pc := 58) (c_allow s_2 hfl RG.of2 hISE 0 (Or.inl rfl)) (lw_S q443 q444 q44 q445) md_yX1_allow (nT _) (fun E x9 hx9 => by obtain ⟨hn9, rfl, rfl⟩ := hx9; (try have hn8 := bI_0 hn9); exact hX _ _ ⟨xE_of 2 (by unfold t3; (repeat' split) <;> omega) rfl, ad, q_2R⟩) (by decide) (by decide) rfl (Nat.le_of_ble_eq_true rfl) dX1_early_58 (qV.k (fun s_58_1 q_58_1 => ?_))
          exact absurd q_58_1.1 (by decide)
        · refine j_iconst (pc := 53) dX1_early_53 rfl ?_
          refine j_goto (pc := 54) (tgt := 58) dX1_early_54 (by decide) ?_
          refine j_room (cl' := 7 + 1) (sl' := 1274 + 6) (by omega) (by omega) ?_
          refine j_callSx (pc := 58) (c_allow s_2 hfl RG.of2 hISE 1 (Or.inr rfl)) (lw_S q443 q444 q44 q445) md_yX1_allow (nT _) (fun E x9 hx9 => by obtain ⟨hn9, rfl, rfl⟩ := hx9; (try have hn8 := bI_0 hn9); exact hX _ _ ⟨xE_of 2 (by unfold t3; (repeat' split) <;> omega) rfl, ad, q_2R⟩) (by decide) (by decide) rfl (Nat.le_of_ble_eq_true rfl) dX1_early_58 (qV.k (fun s_58_1 q_58_1 => ?_))
          obtain ⟨q_58_1b, q_58_1e⟩ := q_58_1
          subst s_58_1
          refine j_aload_n (pc := 61) dX1_early_61 rfl ?_
          refine j2_get fa_X1_58_X1 (show s_2 (o) = some (pO 0 [.ref (ad 1 0 0), .ref (ad 2 0 0), .ref (ad 3 0 0), .ref (ad 4 0 0), .ref (ad 12 0 0), IV (σ.1 0), .ref (ad 5 0 0), .ref (ad 6 0 0)]) from q_2R.top1 hz) rfl dX1_early_62 ?_
          refine j_aload_n (pc := 65) dX1_early_65 rfl ?_
          refine j_aload_n (pc := 66) dX1_early_66 rfl ?_
          refine j2_get fa_X1_110_X1 (show s_2 (o) = some (pO 0 [.ref (ad 1 0 0), .ref (ad 2 0 0), .ref (ad 3 0 0), .ref (ad 4 0 0), .ref (ad 12 0 0), IV (σ.1 0), .ref (ad 5 0 0), .ref (ad 6 0 0)]) from q_2R.top1 hz) rfl dX1_early_67 ?_
          have n_2 : 0 ≤ σ.1 0 ∧ σ.1 0 ≤ 2100 := hB.1 0
          refine j_room (cl' := 5 + 2) (sl' := 754 + 520) (by omega) (by omega) ?_
          refine j_callV (pc := 70) (c_voidSealed s_2 hke hfe hko8 o ad σ q_2R hB hz h23 (p).toNat (by show ((((p).toNat) : Nat) : Int) < σ.1 9; omega) (σ.1 0) rfl (by show σ.1 42 ≤ 250; omega)) (lw_V q634 q635 q636 q69 q637) rfl md_yX9_voidSealed (RC.of2 (show s_2 (ad 12 0 0) = some (pO 7 [IV (σ.1 15), IV (σ.1 16), IV (σ.1 17), .ref (ad 13 0 0), .ref (ad 14 0 0), .ref (ad 15 0 0), .ref (ad 16 0 0), .ref (ad 17 0 0), .ref (ad 18 0 0), IV (σ.1 14)]) from q_2R.at 12 0 0 ⟨hz, rfl, rfl⟩) rfl) (by decide) (by decide) rfl (Nat.le_of_ble_eq_true rfl) dX1_early_70 (qI.k (fun r_70 s_70 q_70 => ?_))
          obtain ⟨q_70e, ad_70, hk_70, R_v70⟩ := q_70
          subst r_70
          obtain ⟨τ, hτ⟩ : ∃ τ, τ = sVoids σ (p).toNat := ⟨_, rfl⟩
          rw [← hτ] at R_v70
          have t0 : τ.1 0 = σ.1 0 := by rw [hτ]; exact sVoids_1 σ (p).toNat (by decide)
          have t6 : τ.1 6 = σ.1 6 := by rw [hτ]; exact sVoids_1 σ (p).toNat (by decide)
          have t9 : τ.1 9 = σ.1 9 := by rw [hτ]; exact sVoids_1 σ (p).toNat (by decide)
          have t14 : τ.1 14 = σ.1 14 := by rw [hτ]; exact sVoids_1 σ (p).toNat (by decide)
          have t15 : τ.1 15 = σ.1 15 := by rw [hτ]; exact sVoids_1 σ (p).toNat (by decide)
          have t19 : τ.1 19 = σ.1 19 := by rw [hτ]; exact sVoids_1 σ (p).toNat (by decide)
          have t26 : τ.1 26 = σ.1 26 := by rw [hτ]; exact sVoids_1 σ (p).toNat (by decide)
          have u8 : τ.2 8 = σ.2 8 := by rw [hτ]; exact sVoids_2 σ (p).toNat (by decide)
          have u20 : τ.2 20 = σ.2 20 := by rw [hτ]; exact sVoids_2 σ (p).toNat (by decide)
          have u22 : τ.2 22 = σ.2 22 := by rw [hτ]; exact sVoids_2 σ (p).toNat (by decide)
          have u23 : τ.2 23 = σ.2 23 := by rw [hτ]; exact sVoids_2 σ (p).toNat (by decide)
          have u24 : τ.2 24 = σ.2 24 := by rw [hτ]; exact sVoids_2 σ (p).toNat (by decide)
          have u27 : τ.2 27 = σ.2 27 := by rw [hτ]; exact sVoids_2 σ (p).toNat (by decide)
          have u28 : τ.2 28 = σ.2 28 := by rw [hτ]; exact sVoids_2 σ (p).toNat (by decide)
          have hzt : τ.1 14 ≠ 0 := by rw [t14]; exact hz
          have t42 : τ.1 42 ≤ σ.1 42 + 1 := by rw [hτ]; exact (sVoids_42 σ (p).toNat).2
          have hBt : Bd τ := by rw [hτ]; exact Bd.voids hB (by omega) (by show σ.1 42 < 1000; omega)
          refine j_istore (pc := 73) dX1_early_73 (by decide) (lo' := [some (.ref o), some (IV p), some (IV v), some (.ref (ad 7 (p).toNat 0)), some (IV (bI (sSealed σ (p).toNat (σ.1 26).toNat ≠ -1)))]) rfl ?_
          refine j_aload_n (pc := 75) dX1_early_75 rfl ?_
          refine j2_get fa_X1_58_X1 (show s_70 (o) = some (pO 0 [.ref (ad_70 1 0 0), .ref (ad_70 2 0 0), .ref (ad_70 3 0 0), .ref (ad_70 4 0 0), .ref (ad_70 12 0 0), IV (τ.1 0), .ref (ad_70 5 0 0), .ref (ad_70 6 0 0)]) from R_v70.top1 hzt) rfl dX1_early_76 ?_
          refine j2_get fa_X1_193_X9 (show s_70 (ad_70 12 0 0) = some (pO 7 [IV (τ.1 15), IV (τ.1 16), IV (τ.1 17), .ref (ad_70 13 0 0), .ref (ad_70 14 0 0), .ref (ad_70 15 0 0), .ref (ad_70 16 0 0), .ref (ad_70 17 0 0), .ref (ad_70 18 0 0), IV (τ.1 14)]) from R_v70.at 12 0 0 ⟨hzt, rfl, rfl⟩) rfl dX1_early_79 ?_
          refine j_room (cl' := 4 + 1) (sl' := 751 + 3) (by omega) (by omega) ?_
          refine j2_new hke.1 (Or.inl (by decide)) fn_X1_196_X11 dX1_early_82 (fun a_82 h_82 n_82 e_82 => ?_)
          have z_3 : h_82 a_82 = some (pO 9 [.null, IV 0, IV 0]) := by rw [e_82]; exact upH_self _ _ _
          have fo_a_82 : ∀ k i j, live τ k i j → ad_70 k i j ≠ a_82 := fun k i j hl => R_v70.fresh n_82 hl
          have R_4 : Rel K h_82 o ad_70 τ := R_v70.other (fun b c hb => by rw [e_82]; exact upH_old hb n_82)
          refine j_dup (pc := 85) dX1_early_85 rfl ?_
          refine j_aload_n (pc := 86) dX1_early_86 rfl ?_
          refine j_iload_n (pc := 87) dX1_early_87 rfl ?_
          refine j_callI (pc := 88) (c_enInit h_82 a_82 (ad 7 (p).toNat 0) v z_3) (lw_meth q884) q74 q882 q883 rfl md_yX11_init (by decide) (by decide) rfl (Nat.le_of_ble_eq_true rfl) dX1_early_88 (qV.k (fun s_88 q_88 => ?_))
          have z_5 : s_88 a_82 = some (pO 9 [.ref (ad 7 (p).toNat 0), IV v, IV 0]) := by rw [q_88]; exact upH_self _ _ _
          have R_6 : Rel K s_88 o ad_70 τ := R_4.off q_88 fo_a_82
          refine j_room (cl' := 3 + 1) (sl' := 611 + 140) (by omega) (by omega) ?_
          refine j_callF (pc := 91) (xm := ⟨"java/util/List", "add", "(Ljava/lang/Object;)Z"⟩) (l2_add hke (show s_88 (ad_70 17 0 0) = some (pL (rg (τ.1 26) (fun q => ad_70 25 q 0))) from R_6.at 17 0 0 ⟨hzt, rfl, rfl⟩) hko11 (Or.inl ⟨9, _, z_5, by decide, rfl⟩) (fun z hz9 => by obtain ⟨i9, h9, rfl⟩ := mem_rg hz9; exact Or.inl ⟨9, _, R_6.at 25 i9 0 ⟨hzt, h9, rfl⟩, by decide, rfl⟩) (by have h9 := rg_len (n := τ.1 26) (by omega) (fun q => ad_70 25 q 0); omega) 140 (by have h9 := rg_len (n := τ.1 26) (by omega) (fun q => ad_70 25 q 0); omega)) (lw_F q477 q480 q482 q47 q484) hfe.2.2.2.1 (ci := 2) rfl rfl mdx_yJ2_add (RC.ofL (show s_88 (ad_70 17 0 0) = some (pL (rg (τ.1 26) (fun q => ad_70 25 q 0))) from R_6.at 17 0 0 ⟨hzt, rfl, rfl⟩)) (by decide) (by decide) rfl (Nat.le_of_ble_eq_true rfl) dX1_early_91 (qI.k (fun r_91 s_91 q_91 => ?_))
          obtain ⟨e1q_91, e2q_91⟩ := q_91
          subst r_91
          obtain ⟨ad2, R2⟩ : ∃ ad2, Rel K s_91 o ad2 (setI (setA (setA (setA τ 23 (τ.1 26).toNat p.toNat) 24 (τ.1 26).toNat v) 25 (τ.1 26).toNat 0) 26 (τ.1 26 + 1)) := ⟨_, R_6.envel hzt (by omega) fo_a_82 (by rw [hk_70 7 p.toNat 0 (by decide)]; exact z_5) e2q_91⟩
          refine j_pop (pc := 96) dX1_early_96 rfl ?_
          refine j_aload_n (pc := 97) dX1_early_97 rfl ?_
          refine j2_get fa_X1_58_X1 (show s_91 (o) = some (pO 0 [.ref (ad2 1 0 0), .ref (ad2 2 0 0), .ref (ad2 3 0 0), .ref (ad2 4 0 0), .ref (ad2 12 0 0), IV (τ.1 0), .ref (ad2 5 0 0), .ref (ad2 6 0 0)]) from R2.top1 hzt) rfl dX1_early_98 ?_
          refine j_aload_n (pc := 101) dX1_early_101 rfl ?_
          refine j2_get fa_X1_110_X1 (show s_91 (o) = some (pO 0 [.ref (ad2 1 0 0), .ref (ad2 2 0 0), .ref (ad2 3 0 0), .ref (ad2 4 0 0), .ref (ad2 12 0 0), IV (τ.1 0), .ref (ad2 5 0 0), .ref (ad2 6 0 0)]) from R2.top1 hzt) rfl dX1_early_102 ?_
          have n_7 : 0 ≤ τ.1 0 ∧ τ.1 0 ≤ 2100 := hBt.1 0
          refine j_bipush (pc := 105) (a := 101) dX1_early_105 (by decide) ?_
          refine j_iload_n (pc := 107) dX1_early_107 rfl ?_
          refine j_room (cl' := 1 + 2) (sl' := 91 + 520) (by omega) (by omega) ?_
          refine j_callV (pc := 108) (c_note s_91 hke hfe hko8 o ad2 (setI (setA (setA (setA τ 23 (τ.1 26).toNat p.toNat) 24 (τ.1 26).toNat v) 25 (τ.1 26).toNat 0) 26 (τ.1 26 + 1)) R2 (Bd.i (((hBt.a (by show (0 : Int) ≤ ((p.toNat : Nat) : Int) ∧ ((p.toNat : Nat) : Int) ≤ 19; omega)).a (by show (0 : Int) ≤ v ∧ v ≤ 5; omega)).a (by show (0 : Int) ≤ 0 ∧ (0 : Int) ≤ 2; decide)) (by show 0 ≤ τ.1 26 + 1 ∧ τ.1 26 + 1 ≤ 60; omega)) hzt (by show τ.1 42 ≤ 250; omega) (τ.1 0) 101 p ⟨rfl, rfl⟩) (lw_V q901 q648 q649 q69 q650) rfl md_yX9_note (RC.of2 (show s_91 (ad2 12 0 0) = some (pO 7 [IV (τ.1 15), IV (τ.1 16), IV (τ.1 17), .ref (ad2 13 0 0), .ref (ad2 14 0 0), .ref (ad2 15 0 0), .ref (ad2 16 0 0), .ref (ad2 17 0 0), .ref (ad2 18 0 0), IV (τ.1 14)]) from R2.at 12 0 0 ⟨hzt, rfl, rfl⟩) rfl) (by decide) (by decide) rfl (Nat.le_of_ble_eq_true rfl) dX1_early_108 (qV.k (fun s_108 q_108 => ?_))
          obtain ⟨ad_108, hk_108, R_n108⟩ := q_108
          refine j_aload_n (pc := 111) dX1_early_111 rfl ?_
          refine j2_get fa_X1_58_X1 (show s_108 (o) = some (pO 0 [.ref (ad_108 1 0 0), .ref (ad_108 2 0 0), .ref (ad_108 3 0 0), .ref (ad_108 4 0 0), .ref (ad_108 12 0 0), IV (τ.1 0), .ref (ad_108 5 0 0), .ref (ad_108 6 0 0)]) from R_n108.top1 hzt) rfl dX1_early_112 ?_
          refine j2_get fa_X1_193_X9 (show s_108 (ad_108 12 0 0) = some (pO 7 [IV (τ.1 15), IV (τ.1 16), IV (τ.1 17), .ref (ad_108 13 0 0), .ref (ad_108 14 0 0), .ref (ad_108 15 0 0), .ref (ad_108 16 0 0), .ref (ad_108 17 0 0), .ref (ad_108 18 0 0), IV (τ.1 14)]) from R_n108.at 12 0 0 ⟨hzt, rfl, rfl⟩) rfl dX1_early_115 ?_
          refine j_callF (pc := 118) (xm := ⟨"java/util/List", "size", "()I"⟩) (l2_size (show s_108 (ad_108 17 0 0) = some (pL (rg (τ.1 26 + 1) (fun q => ad_108 25 q 0))) from R_n108.at 17 0 0 ⟨hzt, rfl, rfl⟩)) (lw_F q155 q159 q161 q47 q163) hfe.1 (ci := 2) rfl rfl mdx_yJ2_size (RC.ofL (show s_108 (ad_108 17 0 0) = some (pL (rg (τ.1 26 + 1) (fun q => ad_108 25 q 0))) from R_n108.at 17 0 0 ⟨hzt, rfl, rfl⟩)) (by decide) (by decide) rfl (Nat.le_of_ble_eq_true rfl) dX1_early_118 (qI.k (fun r_118 s_118 q_118 => ?_))
          obtain ⟨e1q_118, e2q_118⟩ := q_118
          subst s_118
          rw [rg_len (by omega)] at e1q_118
          subst r_118
          refine j_iconst (pc := 123) dX1_early_123 rfl ?_
          refine j_isub (pc := 124) dX1_early_124 ?_
          refine j_iret (pc := 125) rfl (hQ _ _ ?_) dX1_early_125
          have ep : ((p.toNat : Nat) : Int) = p := by omega
          rw [ep] at hτ
          have h9 := R_n108
          rw [ep, t26, t0, hτ] at h9
          exact ⟨t3_mk ⟨by omega, by omega⟩ ⟨by omega, by omega⟩ ⟨by omega, ⟨hro, by omega⟩, by omega⟩, by show τ.1 26 + 1 - 1 = σ.1 26; omega, ad_108, h9⟩

theorem fa_X1_205_X9 : FA RX1 205 7 5 := ⟨RX9, TX9, 10, "BallotFoundry$Election", rfl, in_X9, by decide, q724, Or.inl rfl⟩
set_option maxHeartbeats 4000000 in
theorem c_vote {Γ : GG} {A : Nat → Prop} {K : KK} {l : Launch} (h : AL2) (hfl : l.stackTraces = false) (hke : KE Γ A K) (hfe : FE Γ) (hIOB : TH5 Γ A "java/lang/IndexOutOfBoundsException") (hIAE : TH5 Γ A "java/lang/IllegalArgumentException") (hISE : TH5 Γ A "java/lang/IllegalStateException") (o : Nat) (ad : AD) (σ : MM) (hR : Rel K h o ad σ) (hB : Bd σ) (p : Int) (hp : RR p) (s : Int) (hs : RR s) (v : Int) (hv : RR v) (hko8 : KO Γ RX8) (hbe : BE Γ A K) (hI : In σ) (hn : σ.1 42 ≤ 240) : Ct Γ A (Rep2 Γ A K) l yX1_vote (ws_ yX1_vote cX1_vote 6 (some .int)) 13 14 1300 [.ref o, IV p, IV s, IV v] h (qI (fun (r : Int) (h' : AL2) => t3 (isP σ p ∧ isS σ s) (0 ≤ v ∧ v ≤ 5) (σ.1 14 = 3 ∧ (σ.2 20 p.toNat ≠ -1 ∧ σ.2 8 p.toNat = 0) ∧ σ.2 22 p.toNat = 0 ∧ σ.2 20 p.toNat = s) = 0 ∧ r = σ.2 28 (σ.2 20 p.toNat).toNat + 1 ∧ ∃ ad', Rel K h' o ad' (sCasts (sNote (sVoids σ p) (σ.1 0) 118 p) p v))) (fun (E : String) (h' : AL2) => xE ["java/lang/IndexOutOfBoundsException", "java/lang/IllegalArgumentException", "java/lang/IllegalStateException"] (t3 (isP σ p ∧ isS σ s) (0 ≤ v ∧ v ≤ 5) (σ.1 14 = 3 ∧ (σ.2 20 p.toNat ≠ -1 ∧ σ.2 8 p.toNat = 0) ∧ σ.2 22 p.toNat = 0 ∧ σ.2 20 p.toNat = s)) E ∧ ∃ ad', Rel K h' o ad' σ) := by
  refine Ct.ofJ (own := RX1) (nm := "vote") (lo := [some (.ref o), some (IV p), some (IV s), some (IV v), none, none]) pn_X1 rfl rfl (List.forall_mem_cons.mpr ⟨rfl, (List.forall_mem_cons.mpr ⟨rfl, (List.forall_mem_cons.mpr ⟨rfl, (List.forall_mem_cons.mpr ⟨rfl, (fun _ h => nomatch h)⟩)⟩)⟩)⟩) (Nat.le_of_ble_eq_true rfl) rfl ?_
  have hQ : ∀ (r : Int) (h' : AL2), (t3 (isP σ p ∧ isS σ s) (0 ≤ v ∧ v ≤ 5) (σ.1 14 = 3 ∧ (σ.2 20 p.toNat ≠ -1 ∧ σ.2 8 p.toNat = 0) ∧ σ.2 22 p.toNat = 0 ∧ σ.2 20 p.toNat = s) = 0 ∧ r = σ.2 28 (σ.2 20 p.toNat).toNat + 1 ∧ ∃ ad', Rel K h' o ad' (sCasts (sNote (sVoids σ p) (σ.1 0) 118 p) p v)) → (qI (fun (r : Int) (h' : AL2) => t3 (isP σ p ∧ isS σ s) (0 ≤ v ∧ v ≤ 5) (σ.1 14 = 3 ∧ (σ.2 20 p.toNat ≠ -1 ∧ σ.2 8 p.toNat = 0) ∧ σ.2 22 p.toNat = 0 ∧ σ.2 20 p.toNat = s) = 0 ∧ r = σ.2 28 (σ.2 20 p.toNat).toNat + 1 ∧ ∃ ad', Rel K h' o ad' (sCasts (sNote (sVoids σ p) (σ.1 0) 118 p) p v))) (some (IV r)) h' := fun r h' h => ⟨r, rfl, h⟩
  generalize (qI (fun (r : Int) (h' : AL2) => t3 (isP σ p ∧ isS σ s) (0 ≤ v ∧ v ≤ 5) (σ.1 14 = 3 ∧ (σ.2 20 p.toNat ≠ -1 ∧ σ.2 8 p.toNat = 0) ∧ σ.2 22 p.toNat = 0 ∧ σ.2 20 p.toNat = s) = 0 ∧ r = σ.2 28 (σ.2 20 p.toNat).toNat + 1 ∧ ∃ ad', Rel K h' o ad' (sCasts (sNote (sVoids σ p) (σ.1 0) 118 p) p v))) = QP at hQ ⊢
  have hX : ∀ (E : String) (h' : AL2), (xE ["java/lang/IndexOutOfBoundsException", "java/lang/IllegalArgumentException", "java/lang/IllegalStateException"] (t3 (isP σ p ∧ isS σ s) (0 ≤ v ∧ v ≤ 5) (σ.1 14 = 3 ∧ (σ.2 20 p.toNat ≠ -1 ∧ σ.2 8 p.toNat = 0) ∧ σ.2 22 p.toNat = 0 ∧ σ.2 20 p.toNat = s)) E ∧ ∃ ad', Rel K h' o ad' σ) → (fun (E : String) (h' : AL2) => xE ["java/lang/IndexOutOfBoundsException", "java/lang/IllegalArgumentException", "java/lang/IllegalStateException"] (t3 (isP σ p ∧ isS σ s) (0 ≤ v ∧ v ≤ 5) (σ.1 14 = 3 ∧ (σ.2 20 p.toNat ≠ -1 ∧ σ.2 8 p.toNat = 0) ∧ σ.2 22 p.toNat = 0 ∧ σ.2 20 p.toNat = s)) E ∧ ∃ ad', Rel K h' o ad' σ) E h' := fun E h' h => h
  generalize (fun (E : String) (h' : AL2) => xE ["java/lang/IndexOutOfBoundsException", "java/lang/IllegalArgumentException", "java/lang/IllegalStateException"] (t3 (isP σ p ∧ isS σ s) (0 ≤ v ∧ v ≤ 5) (σ.1 14 = 3 ∧ (σ.2 20 p.toNat ≠ -1 ∧ σ.2 8 p.toNat = 0) ∧ σ.2 22 p.toNat = 0 ∧ σ.2 20 p.toNat = s)) E ∧ ∃ ad', Rel K h' o ad' σ) = XP at hX ⊢
  have n9 : 0 ≤ σ.1 9 ∧ σ.1 9 ≤ 20 := hB.1 9
  have n6 : 0 ≤ σ.1 6 ∧ σ.1 6 ≤ 5 := hB.1 6
  have n26 : 0 ≤ σ.1 26 ∧ σ.1 26 ≤ 60 := hB.1 26
  have n19 : 0 ≤ σ.1 19 ∧ σ.1 19 ≤ 5 := hB.1 19
  have h23 : ∀ i : Nat, (i : Int) < σ.1 26 → 0 ≤ σ.2 23 i ∧ σ.2 23 i < σ.1 9 := fun i hi => ⟨(hB.2 23 i).1, (hI.2.2.2.2.2.1 i hi).1⟩
  refine j_aload_n (pc := 0) dX1_vote_0 rfl ?_
  refine j_iload_n (pc := 1) dX1_vote_1 rfl ?_
  refine j_room (cl' := 11 + 3) (sl' := 1286 + 14) (by omega) (by omega) ?_
  refine j_callVx (pc := 2) (c_find h hfl hke hfe hIOB o ad σ hR hB p (by omega)) (lw_V q614 q616 qs12 q44 q617) rfl md_yX1_find (RC.of2 (show h (o) = some (pO 0 [.ref (ad 1 0 0), .ref (ad 2 0 0), .ref (ad 3 0 0), .ref (ad 4 0 0), va_rf (if σ.1 14 = 0 then none else some (ad 12 0 0)), IV (σ.1 0), .ref (ad 5 0 0), .ref (ad 6 0 0)]) from hR.top) rfl) (nT _) (fun E x9 hx9 => by obtain ⟨rfl, hn9, hR9⟩ := hx9; exact hX _ _ ⟨xE_of 0 (by unfold t3; (repeat' split) <;> omega) rfl, ad, hR9⟩) (by decide) (by decide) rfl (Nat.le_of_ble_eq_true rfl) dX1_vote_2 (qR.k (fun r_2 s_2 q_2 => ?_))
  obtain ⟨q_2p, q_2e, q_2R⟩ := q_2
  subst r_2
  refine j_astore (pc := 5) dX1_vote_5 (by decide) (lo' := [some (.ref o), some (IV p), some (IV s), some (IV v), some (.ref (ad 7 (p).toNat 0)), none]) rfl ?_
  refine j_iconst (pc := 7) dX1_vote_7 rfl ?_
  refine j_room (cl' := 10 + 1) (sl' := 1284 + 2) (by omega) (by omega) ?_
  refine j2_newa (i := 2) (N := 2) (atype := .int) hke.1 (Or.inl ⟨rfl, rfl⟩) q141 (by omega) (by omega) (by omega) dX1_vote_8 (fun a_8 h_8 n_8 e_8 => ?_)
  have z_1 : h_8 a_8 = some (pA 0 2 (fun _ => 0)) := by rw [e_8]; exact upH_self _ _ _
  have fo_a_8 : ∀ k i j, live σ k i j → ad k i j ≠ a_8 := fun k i j hl => q_2R.fresh n_8 hl
  have R_2 : Rel K h_8 o ad σ := q_2R.other (fun b c hb => by rw [e_8]; exact upH_old hb n_8)
  refine j_dup (pc := 10) dX1_vote_10 rfl ?_
  refine j_iconst (pc := 11) dX1_vote_11 rfl ?_
  refine j_iload_n (pc := 12) dX1_vote_12 rfl ?_
  refine j2_iast (i := 0) z_1 (by show 0 ≤ 0 ∧ 0 < ((2 : Nat) : Int); omega) dX1_vote_13 (fun h_13 e_13 => ?_)
  have z_3 : h_13 a_8 = some (pA 0 2 (uA (fun _ => 0) 0 s)) := by rw [e_13]; exact upH_self _ _ _
  have R_4 : Rel K h_13 o ad σ := R_2.off e_13 fo_a_8
  refine j_dup (pc := 14) dX1_vote_14 rfl ?_
  refine j_iconst (pc := 15) dX1_vote_15 rfl ?_
  refine j_aload_n (pc := 16) dX1_vote_16 rfl ?_
  refine j2_get fa_X1_20_X1 (show h_13 (o) = some (pO 0 [.ref (ad 1 0 0), .ref (ad 2 0 0), .ref (ad 3 0 0), .ref (ad 4 0 0), va_rf (if σ.1 14 = 0 then none else some (ad 12 0 0)), IV (σ.1 0), .ref (ad 5 0 0), .ref (ad 6 0 0)]) from R_4.top) rfl dX1_vote_17 ?_
  refine j_callF (pc := 20) (xm := ⟨"java/util/List", "size", "()I"⟩) (l2_size (show h_13 (ad 3 0 0) = some (pL (rg (σ.1 6) (fun p => ad 8 p 0))) from R_4.at 3 0 0 ⟨rfl, rfl⟩)) (lw_F q155 q159 q161 q47 q163) hfe.1 (ci := 2) rfl rfl mdx_yJ2_size (RC.ofL (show h_13 (ad 3 0 0) = some (pL (rg (σ.1 6) (fun p => ad 8 p 0))) from R_4.at 3 0 0 ⟨rfl, rfl⟩)) (by decide) (by decide) rfl (Nat.le_of_ble_eq_true rfl) dX1_vote_20 (qI.k (fun r_20 s_20 q_20 => ?_))
  obtain ⟨e1q_20, e2q_20⟩ := q_20
  subst s_20
  rw [rg_len (by omega)] at e1q_20
  subst r_20
  refine j2_iast (i := 1) z_3 (by show 0 ≤ 1 ∧ 1 < ((2 : Nat) : Int); omega) dX1_vote_25 (fun h_25 e_25 => ?_)
  have z_5 : h_25 a_8 = some (pA 0 2 (uA (uA (fun _ => 0) 0 s) 1 (σ.1 6))) := by rw [e_25]; exact upH_self _ _ _
  have R_6 : Rel K h_25 o ad σ := R_4.off e_25 fo_a_8
  refine j_room (cl' := 9 + 1) (sl' := 1278 + 6) (by omega) (by omega) ?_
  refine j_callSx (pc := 26) (c_exist h_25 hfl RG.of2 hIOB a_8 1 (uA (uA (fun _ => 0) 0 s) 1 (σ.1 6)) (rrA (rrA rr0 (by omega)) (by omega)) (by decide) z_5) (lw_S q370 q371 q44 q372) md_yX1_exist (nT _) (fun E x9 hx9 => by obtain ⟨rfl, hn9, rfl⟩ := hx9; rw [ex1] at hn9; exact hX _ _ ⟨xE_of 0 (by unfold t3; (repeat' split) <;> omega) rfl, ad, R_6⟩) (by decide) (by decide) rfl (Nat.le_of_ble_eq_true rfl) dX1_vote_26 (qV.k (fun s_26 q_26 => ?_))
  obtain ⟨q_26a, q_26e⟩ := q_26
  subst s_26
  have q_26b := ex1.mp q_26a
  refine j_iload_n (pc := 29) dX1_vote_29 rfl ?_
  refine j_callS (pc := 30) (c_isBallot h_25 v (by omega)) (lw_S q877 q878 q44 q879) md_yX1_isBallot (by decide) (by decide) rfl (Nat.le_of_ble_eq_true rfl) dX1_vote_30 (qI.k (fun r_30 s_30 q_30 => ?_))
  obtain ⟨e1q_30, e2q_30⟩ := q_30
  subst r_30
  subst s_30
  refine j_room (cl' := 8 + 1) (sl' := 1272 + 6) (by omega) (by omega) ?_
  refine j_callSx (pc := 33) (c_want h_25 hfl RG.of2 hIAE (bI (0 ≤ v ∧ v ≤ 5)) (bI_01 _)) (lw_S q403 q404 q44 q405) md_yX1_want (nT _) (fun E x9 hx9 => by obtain ⟨hn9, rfl, rfl⟩ := hx9; (try have hn8 := bI_0 hn9); exact hX _ _ ⟨xE_of 1 (by unfold t3; (repeat' split) <;> omega) rfl, ad, R_6⟩) (by decide) (by decide) rfl (Nat.le_of_ble_eq_true rfl) dX1_vote_33 (qV.k (fun s_33 q_33 => ?_))
  obtain ⟨q_33b, q_33e⟩ := q_33
  subst s_33
  have q_33c := bI_1 q_33b
  refine j_aload_n (pc := 36) dX1_vote_36 rfl ?_
  refine j_callV (pc := 37) (c_stage h_25 o ad σ R_6 hB) (lw_V q172 q147 q148 q44 q149) rfl md_yX1_stage (RC.of2 (show h_25 (o) = some (pO 0 [.ref (ad 1 0 0), .ref (ad 2 0 0), .ref (ad 3 0 0), .ref (ad 4 0 0), va_rf (if σ.1 14 = 0 then none else some (ad 12 0 0)), IV (σ.1 0), .ref (ad 5 0 0), .ref (ad 6 0 0)]) from R_6.top) rfl) (by decide) (by decide) rfl (Nat.le_of_ble_eq_true rfl) dX1_vote_37 (qI.k (fun r_37 s_37 q_37 => ?_))
  obtain ⟨e1q_37, e2q_37⟩ := q_37
  subst r_37
  subst s_37
  have n14_37 : 0 ≤ σ.1 14 ∧ σ.1 14 ≤ 5 := hB.1 14
  refine j_iconst (pc := 40) dX1_vote_40 rfl ?_
  refine j_icmp_ne (pc := 41) (tgt := 90) dX1_vote_41 (by decide) (by omega) (by decide) (fun c_41 => ?_) (fun c_41 => ?_)
  · refine j_iconst (pc := 90) dX1_vote_90 rfl ?_
    refine j_room (cl' := 7 + 1) (sl' := 1266 + 6) (by omega) (by omega) ?_
    refine j_callSx (pc := 91) (c_allow h_25 hfl RG.of2 hISE 0 (Or.inl rfl)) (lw_S q443 q444 q44 q445) md_yX1_allow (nT _) (fun E x9 hx9 => by obtain ⟨hn9, rfl, rfl⟩ := hx9; (try have hn8 := bI_0 hn9); exact hX _ _ ⟨xE_of 2 (by unfold t3; (repeat' split) <;> omega) rfl, ad, R_6⟩) (by decide) (by decide) rfl (Nat.le_of_ble_eq_true rfl) dX1_vote_91 (qV.k (fun s_91 q_91 => ?_))
    exact absurd q_91.1 (by decide)
  · have hz : σ.1 14 ≠ 0 := by omega
    refine j_aload_n (pc := 44) dX1_vote_44 rfl ?_
    refine j_aload (pc := 45) dX1_vote_45 rfl ?_
    refine j_callV (pc := 47) (c_isRolled h_25 o ad σ R_6 hB hI (p).toNat (by omega)) (lw_V q848 q850 qs16 q44 q851) rfl md_yX1_isRolled (RC.of2 (show h_25 (o) = some (pO 0 [.ref (ad 1 0 0), .ref (ad 2 0 0), .ref (ad 3 0 0), .ref (ad 4 0 0), .ref (ad 12 0 0), IV (σ.1 0), .ref (ad 5 0 0), .ref (ad 6 0 0)]) from R_6.top1 hz) rfl) (by decide) (by decide) rfl (Nat.le_of_ble_eq_true rfl) dX1_vote_47 (qI.k (fun r_47 s_47 q_47 => ?_))
    obtain ⟨e1q_47, e2q_47⟩ := q_47
    subst r_47
    subst s_47
    refine j_ifb_eq (pc := 50) (tgt := 90) dX1_vote_50 (by decide) (fun c_50 => ?_) (fun c_50 => ?_)
    · have hro := c_50
      refine j_iconst (pc := 90) dX1_vote_90 rfl ?_
      refine j_room (cl' := 7 + 1) (sl' := 1266 + 6) (by omega) (by omega) ?_
      refine j_callSx (pc := 91) (c_allow h_25 hfl RG.of2 hISE 0 (Or.inl rfl)) (lw_S q443 q444 q44 q445) md_yX1_allow (nT _) (fun E x9 hx9 => by obtain ⟨hn9, rfl, rfl⟩ := hx9; (try have hn8 := bI_0 hn9); exact hX _ _ ⟨xE_of 2 (by unfold t3; (repeat' split) <;> omega) rfl, ad, R_6⟩) (by decide) (by decide) rfl (Nat.le_of_ble_eq_true rfl) dX1_vote_91 (qV.k (fun s_91_1 q_91_1 => ?_))
      exact absurd q_91_1.1 (by decide)
    · have hro := c_50
      refine j_aload (pc := 53) dX1_vote_53 rfl ?_
      refine j2_get fa_X1_120_X4 (show h_25 (ad 7 (p).toNat 0) = some (pO 4 [IV (((p).toNat : Nat) : Int), IV (σ.2 7 (p).toNat), .ref (ad 9 (p).toNat 0), IV (σ.2 8 (p).toNat)]) from R_6.at 7 (p).toNat 0 ⟨(by omega), rfl⟩) rfl dX1_vote_55 ?_
      have n_7 : 0 ≤ σ.2 8 (p).toNat ∧ σ.2 8 (p).toNat ≤ 1 := hB.2 8 ((p).toNat)
      refine j_if_ne (pc := 58) (tgt := 90) dX1_vote_58 (by decide) (by omega) (fun c_58 => ?_) (fun c_58 => ?_)
      · refine j_iconst (pc := 90) dX1_vote_90 rfl ?_
        refine j_room (cl' := 7 + 1) (sl' := 1266 + 6) (by omega) (by omega) ?_
        refine j_callSx (pc := 91) (c_allow h_25 hfl RG.of2 hISE 0 (Or.inl rfl)) (lw_S q443 q444 q44 q445) md_yX1_allow (nT _) (fun E x9 hx9 => by obtain ⟨hn9, rfl, rfl⟩ := hx9; (try have hn8 := bI_0 hn9); exact hX _ _ ⟨xE_of 2 (by unfold t3; (repeat' split) <;> omega) rfl, ad, R_6⟩) (by decide) (by decide) rfl (Nat.le_of_ble_eq_true rfl) dX1_vote_91 (qV.k (fun s_91_1 q_91_1 => ?_))
        exact absurd q_91_1.1 (by decide)
      · refine j_aload_n (pc := 61) dX1_vote_61 rfl ?_
        refine j2_get fa_X1_58_X1 (show h_25 (o) = some (pO 0 [.ref (ad 1 0 0), .ref (ad 2 0 0), .ref (ad 3 0 0), .ref (ad 4 0 0), .ref (ad 12 0 0), IV (σ.1 0), .ref (ad 5 0 0), .ref (ad 6 0 0)]) from R_6.top1 hz) rfl dX1_vote_62 ?_
        refine j2_get fa_X1_205_X9 (show h_25 (ad 12 0 0) = some (pO 7 [IV (σ.1 15), IV (σ.1 16), IV (σ.1 17), .ref (ad 13 0 0), .ref (ad 14 0 0), .ref (ad 15 0 0), .ref (ad 16 0 0), .ref (ad 17 0 0), .ref (ad 18 0 0), IV (σ.1 14)]) from R_6.at 12 0 0 ⟨hz, rfl, rfl⟩) rfl dX1_vote_65 ?_
        refine j_iload_n (pc := 68) dX1_vote_68 rfl ?_
        refine j2_zald (i := p) (show h_25 (ad 15 0 0) = some (pA 1 20 (σ.2 22)) from R_6.at 15 0 0 ⟨hz, rfl, rfl⟩) (by show 0 ≤ p ∧ p < ((20 : Nat) : Int); omega) dX1_vote_69 ?_
        have n_8 : 0 ≤ σ.2 22 (p).toNat ∧ σ.2 22 (p).toNat ≤ 1 := hB.2 22 ((p).toNat)
        refine j_if_ne (pc := 70) (tgt := 90) dX1_vote_70 (by decide) (by omega) (fun c_70 => ?_) (fun c_70 => ?_)
        · refine j_iconst (pc := 90) dX1_vote_90 rfl ?_
          refine j_room (cl' := 7 + 1) (sl' := 1266 + 6) (by omega) (by omega) ?_
          refine j_callSx (pc := 91) (c_allow h_25 hfl RG.of2 hISE 0 (Or.inl rfl)) (lw_S q443 q444 q44 q445) md_yX1_allow (nT _) (fun E x9 hx9 => by obtain ⟨hn9, rfl, rfl⟩ := hx9; (try have hn8 := bI_0 hn9); exact hX _ _ ⟨xE_of 2 (by unfold t3; (repeat' split) <;> omega) rfl, ad, R_6⟩) (by decide) (by decide) rfl (Nat.le_of_ble_eq_true rfl) dX1_vote_91 (qV.k (fun s_91_1 q_91_1 => ?_))
          exact absurd q_91_1.1 (by decide)
        · refine j_aload_n (pc := 73) dX1_vote_73 rfl ?_
          refine j2_get fa_X1_58_X1 (show h_25 (o) = some (pO 0 [.ref (ad 1 0 0), .ref (ad 2 0 0), .ref (ad 3 0 0), .ref (ad 4 0 0), .ref (ad 12 0 0), IV (σ.1 0), .ref (ad 5 0 0), .ref (ad 6 0 0)]) from R_6.top1 hz) rfl dX1_vote_74 ?_
          refine j2_get fa_X1_165_X9 (show h_25 (ad 12 0 0) = some (pO 7 [IV (σ.1 15), IV (σ.1 16), IV (σ.1 17), .ref (ad 13 0 0), .ref (ad 14 0 0), .ref (ad 15 0 0), .ref (ad 16 0 0), .ref (ad 17 0 0), .ref (ad 18 0 0), IV (σ.1 14)]) from R_6.at 12 0 0 ⟨hz, rfl, rfl⟩) rfl dX1_vote_77 ?_
          refine j_iload_n (pc := 80) dX1_vote_80 rfl ?_
          refine j2_iald (i := p) (show h_25 (ad 14 0 0) = some (pA 0 20 (σ.2 20)) from R_6.at 14 0 0 ⟨hz, rfl, rfl⟩) (by show 0 ≤ p ∧ p < ((20 : Nat) : Int); omega) dX1_vote_81 ?_
          have n_9 : (-1) ≤ σ.2 20 (p).toNat ∧ σ.2 20 (p).toNat ≤ 4 := hB.2 20 ((p).toNat)
          refine j_iload_n (pc := 82) dX1_vote_82 rfl ?_
          refine j_icmp_ne (pc := 83) (tgt := 90) dX1_vote_83 (by decide) (by omega) (by omega) (fun c_83 => ?_) (fun c_83 => ?_)
          · refine j_iconst (pc := 90) dX1_vote_90 rfl ?_
            refine j_room (cl' := 7 + 1) (sl' := 1266 + 6) (by omega) (by omega) ?_
            refine j_callSx (pc := 91) (c_allow h_25 hfl RG.of2 hISE 0 (Or.inl rfl)) (lw_S q443 q444 q44 q445) md_yX1_allow (nT _) (fun E x9 hx9 => by obtain ⟨hn9, rfl, rfl⟩ := hx9; (try have hn8 := bI_0 hn9); exact hX _ _ ⟨xE_of 2 (by unfold t3; (repeat' split) <;> omega) rfl, ad, R_6⟩) (by decide) (by decide) rfl (Nat.le_of_ble_eq_true rfl) dX1_vote_91 (qV.k (fun s_91_1 q_91_1 => ?_))
            exact absurd q_91_1.1 (by decide)
          · refine j_iconst (pc := 86) dX1_vote_86 rfl ?_
            refine j_goto (pc := 87) (tgt := 91) dX1_vote_87 (by decide) ?_
            refine j_room (cl' := 7 + 1) (sl' := 1266 + 6) (by omega) (by omega) ?_
            refine j_callSx (pc := 91) (c_allow h_25 hfl RG.of2 hISE 1 (Or.inr rfl)) (lw_S q443 q444 q44 q445) md_yX1_allow (nT _) (fun E x9 hx9 => by obtain ⟨hn9, rfl, rfl⟩ := hx9; (try have hn8 := bI_0 hn9); exact hX _ _ ⟨xE_of 2 (by unfold t3; (repeat' split) <;> omega) rfl, ad, R_6⟩) (by decide) (by decide) rfl (Nat.le_of_ble_eq_true rfl) dX1_vote_91 (qV.k (fun s_91_1 q_91_1 => ?_))
            obtain ⟨q_91_1b, q_91_1e⟩ := q_91_1
            subst s_91_1
            have q2 := hI.2.2.2.1 p.toNat (by omega) hro
            have c28 := (hI.casts_le (p := p) (by omega) hro (by omega)).2
            obtain ⟨y9, hy9⟩ : ∃ y9 : Nat, s = (y9 : Int) := ⟨s.toNat, by omega⟩
            rw [show (σ.2 20 p.toNat).toNat = y9 by omega] at c28
            have d28 : 0 ≤ σ.2 28 y9 := (hB.2 28 y9).1
            refine j_aload_n (pc := 94) dX1_vote_94 rfl ?_
            refine j2_get fa_X1_58_X1 (show h_25 (o) = some (pO 0 [.ref (ad 1 0 0), .ref (ad 2 0 0), .ref (ad 3 0 0), .ref (ad 4 0 0), .ref (ad 12 0 0), IV (σ.1 0), .ref (ad 5 0 0), .ref (ad 6 0 0)]) from R_6.top1 hz) rfl dX1_vote_95 ?_
            refine j_aload (pc := 98) dX1_vote_98 rfl ?_
            refine j_aload_n (pc := 100) dX1_vote_100 rfl ?_
            refine j2_get fa_X1_110_X1 (show h_25 (o) = some (pO 0 [.ref (ad 1 0 0), .ref (ad 2 0 0), .ref (ad 3 0 0), .ref (ad 4 0 0), .ref (ad 12 0 0), IV (σ.1 0), .ref (ad 5 0 0), .ref (ad 6 0 0)]) from R_6.top1 hz) rfl dX1_vote_101 ?_
            have n_10 : 0 ≤ σ.1 0 ∧ σ.1 0 ≤ 2100 := hB.1 0
            refine j_room (cl' := 5 + 2) (sl' := 746 + 520) (by omega) (by omega) ?_
            refine j_callV (pc := 104) (c_voidSealed h_25 hke hfe hko8 o ad σ R_6 hB hz h23 (p).toNat (by show ((((p).toNat) : Nat) : Int) < σ.1 9; omega) (σ.1 0) rfl (by show σ.1 42 ≤ 250; omega)) (lw_V q634 q635 q636 q69 q637) rfl md_yX9_voidSealed (RC.of2 (show h_25 (ad 12 0 0) = some (pO 7 [IV (σ.1 15), IV (σ.1 16), IV (σ.1 17), .ref (ad 13 0 0), .ref (ad 14 0 0), .ref (ad 15 0 0), .ref (ad 16 0 0), .ref (ad 17 0 0), .ref (ad 18 0 0), IV (σ.1 14)]) from R_6.at 12 0 0 ⟨hz, rfl, rfl⟩) rfl) (by decide) (by decide) rfl (Nat.le_of_ble_eq_true rfl) dX1_vote_104 (qI.k (fun r_104 s_104 q_104 => ?_))
            obtain ⟨q_104e, ad_104, hk_104, R_v104⟩ := q_104
            subst r_104
            obtain ⟨τ, hτ⟩ : ∃ τ, τ = sVoids σ (p).toNat := ⟨_, rfl⟩
            rw [← hτ] at R_v104
            have t0 : τ.1 0 = σ.1 0 := by rw [hτ]; exact sVoids_1 σ (p).toNat (by decide)
            have t6 : τ.1 6 = σ.1 6 := by rw [hτ]; exact sVoids_1 σ (p).toNat (by decide)
            have t9 : τ.1 9 = σ.1 9 := by rw [hτ]; exact sVoids_1 σ (p).toNat (by decide)
            have t14 : τ.1 14 = σ.1 14 := by rw [hτ]; exact sVoids_1 σ (p).toNat (by decide)
            have t15 : τ.1 15 = σ.1 15 := by rw [hτ]; exact sVoids_1 σ (p).toNat (by decide)
            have t19 : τ.1 19 = σ.1 19 := by rw [hτ]; exact sVoids_1 σ (p).toNat (by decide)
            have t26 : τ.1 26 = σ.1 26 := by rw [hτ]; exact sVoids_1 σ (p).toNat (by decide)
            have u8 : τ.2 8 = σ.2 8 := by rw [hτ]; exact sVoids_2 σ (p).toNat (by decide)
            have u20 : τ.2 20 = σ.2 20 := by rw [hτ]; exact sVoids_2 σ (p).toNat (by decide)
            have u22 : τ.2 22 = σ.2 22 := by rw [hτ]; exact sVoids_2 σ (p).toNat (by decide)
            have u23 : τ.2 23 = σ.2 23 := by rw [hτ]; exact sVoids_2 σ (p).toNat (by decide)
            have u24 : τ.2 24 = σ.2 24 := by rw [hτ]; exact sVoids_2 σ (p).toNat (by decide)
            have u27 : τ.2 27 = σ.2 27 := by rw [hτ]; exact sVoids_2 σ (p).toNat (by decide)
            have u28 : τ.2 28 = σ.2 28 := by rw [hτ]; exact sVoids_2 σ (p).toNat (by decide)
            have hzt : τ.1 14 ≠ 0 := by rw [t14]; exact hz
            have t42 : τ.1 42 ≤ σ.1 42 + 1 := by rw [hτ]; exact (sVoids_42 σ (p).toNat).2
            have hBt : Bd τ := by rw [hτ]; exact Bd.voids hB (by omega) (by show σ.1 42 < 1000; omega)
            refine j_istore (pc := 107) dX1_vote_107 (by decide) (lo' := [some (.ref o), some (IV p), some (IV s), some (IV v), some (.ref (ad 7 (p).toNat 0)), some (IV (bI (sSealed σ (p).toNat (σ.1 26).toNat ≠ -1)))]) rfl ?_
            refine j_aload_n (pc := 109) dX1_vote_109 rfl ?_
            refine j2_get fa_X1_58_X1 (show s_104 (o) = some (pO 0 [.ref (ad_104 1 0 0), .ref (ad_104 2 0 0), .ref (ad_104 3 0 0), .ref (ad_104 4 0 0), .ref (ad_104 12 0 0), IV (τ.1 0), .ref (ad_104 5 0 0), .ref (ad_104 6 0 0)]) from R_v104.top1 hzt) rfl dX1_vote_110 ?_
            refine j2_get fa_X1_205_X9 (show s_104 (ad_104 12 0 0) = some (pO 7 [IV (τ.1 15), IV (τ.1 16), IV (τ.1 17), .ref (ad_104 13 0 0), .ref (ad_104 14 0 0), .ref (ad_104 15 0 0), .ref (ad_104 16 0 0), .ref (ad_104 17 0 0), .ref (ad_104 18 0 0), IV (τ.1 14)]) from R_v104.at 12 0 0 ⟨hzt, rfl, rfl⟩) rfl dX1_vote_113 ?_
            refine j_iload_n (pc := 116) dX1_vote_116 rfl ?_
            refine j_iconst (pc := 117) dX1_vote_117 rfl ?_
            refine j2_zast (i := p) (show s_104 (ad_104 15 0 0) = some (pA 1 20 (τ.2 22)) from R_v104.at 15 0 0 ⟨hzt, rfl, rfl⟩) (by show 0 ≤ p ∧ p < ((20 : Nat) : Int); omega) (Or.inr rfl) dX1_vote_118 (fun h_118 e_118 => ?_)
            have z_11 : h_118 (ad_104 15 0 0) = some (pA 1 20 (uA (τ.2 22) (p).toNat 1)) := by rw [e_118]; exact upH_self _ _ _
            have R_12 : Rel K h_118 o ad_104 (setA τ 22 (p).toNat 1) := R_v104.voted hzt e_118
            have f28 : τ.2 28 y9 = σ.2 28 y9 := by rw [u28]
            rw [← hk_104 7 (p).toNat 0 (by decide)]
            refine j_aload_n (pc := 119) dX1_vote_119 rfl ?_
            refine j2_get fa_X1_58_X1 (show h_118 (o) = some (pO 0 [.ref (ad_104 1 0 0), .ref (ad_104 2 0 0), .ref (ad_104 3 0 0), .ref (ad_104 4 0 0), .ref (ad_104 12 0 0), IV (τ.1 0), .ref (ad_104 5 0 0), .ref (ad_104 6 0 0)]) from R_12.top1 hzt) rfl dX1_vote_120 ?_
            refine j_aload (pc := 123) dX1_vote_123 rfl ?_
            refine j_callV (pc := 125) (c_boxOf h_118 hfe o ad_104 (setA τ 22 (p).toNat 1) R_12 (Bd.a hBt (by show (0 : Int) ≤ 1 ∧ 1 ≤ (1 : Int); omega)) hzt (p).toNat (by show ((((p).toNat) : Nat) : Int) < τ.1 9; omega) y9 (show τ.2 20 p.toNat = (y9 : Int) by rw [u20]; omega) (show (y9 : Int) < τ.1 19 by rw [t19]; omega)) (lw_V q909 q817 q818 q69 q819) rfl md_yX9_boxOf (RC.of2 (show h_118 (ad_104 12 0 0) = some (pO 7 [IV (τ.1 15), IV (τ.1 16), IV (τ.1 17), .ref (ad_104 13 0 0), .ref (ad_104 14 0 0), .ref (ad_104 15 0 0), .ref (ad_104 16 0 0), .ref (ad_104 17 0 0), .ref (ad_104 18 0 0), IV (τ.1 14)]) from R_12.at 12 0 0 ⟨hzt, rfl, rfl⟩) rfl) (by decide) (by decide) rfl (Nat.le_of_ble_eq_true rfl) dX1_vote_125 (qR.k (fun r_125 s_125 q_125 => ?_))
            obtain ⟨e1q_125, e2q_125⟩ := q_125
            subst r_125
            subst s_125
            refine j2_get fa_X1_212_X10 (show h_118 (ad_104 19 y9 0) = some (pO 8 [.ref (ad_104 20 y9 0), .ref (ad_104 21 y9 0), va_rf (if τ.2 32 y9 = -1 then none else some (ad_104 24 y9 0)), IV (τ.2 21 y9)]) from R_12.at 19 y9 0 ⟨hzt, (show (y9 : Int) < τ.1 19 by rw [t19]; omega), rfl⟩) rfl dX1_vote_128 ?_
            refine j_iload_n (pc := 131) dX1_vote_131 rfl ?_
            refine j_callS (pc := 132) (k_valueOf h_118 hbe v (by omega)) (lw_S q910 q822 q72 q823) md_yJ17_valueOf (by decide) (by decide) rfl (Nat.le_of_ble_eq_true rfl) dX1_vote_132 (qR.k (fun r_132 s_132 q_132 => ?_))
            obtain ⟨e1q_132, e2q_132⟩ := q_132
            subst r_132
            subst s_132
            refine j_room (cl' := 4 + 1) (sl' := 686 + 60) (by omega) (by omega) ?_
            refine j_callF (pc := 135) (xm := ⟨"java/util/List", "add", "(Ljava/lang/Object;)Z"⟩) (l2_add hke (show h_118 (ad_104 20 y9 0) = some (pL (rg (τ.2 28 y9) (fun n => bx K (τ.2 27 (20 * y9 + n))))) from R_12.at 20 y9 0 ⟨hzt, (show (y9 : Int) < τ.1 19 by rw [t19]; omega), rfl⟩) hbe.2.2.2.2.2 (hbe.el (by omega) _) (fun z hz9 => by obtain ⟨i9, h9, rfl⟩ := mem_rg hz9; exact hbe.el (by have h8 : 0 ≤ τ.2 27 (20 * y9 + i9) ∧ τ.2 27 (20 * y9 + i9) ≤ 5 := hBt.2 27 (20 * y9 + i9); show 0 ≤ τ.2 27 (20 * y9 + i9) ∧ τ.2 27 (20 * y9 + i9) ≤ 127; omega) _) (by have h9 := fun f => rg_len (n := τ.2 28 y9) (by have h6 : 0 ≤ τ.2 28 y9 ∧ τ.2 28 y9 ≤ 20 := hBt.2 28 y9; omega) f; have h8 := h9 (fun n => bx K (τ.2 27 (20 * y9 + n))); have h6 : 0 ≤ τ.2 28 y9 ∧ τ.2 28 y9 ≤ 20 := hBt.2 28 y9; omega) 60 (by have h9 := fun f => rg_len (n := τ.2 28 y9) (by have h6 : 0 ≤ τ.2 28 y9 ∧ τ.2 28 y9 ≤ 20 := hBt.2 28 y9; omega) f; have h8 := h9 (fun n => bx K (τ.2 27 (20 * y9 + n))); have h6 : 0 ≤ τ.2 28 y9 ∧ τ.2 28 y9 ≤ 20 := hBt.2 28 y9; omega)) (lw_F q477 q480 q482 q47 q484) hfe.2.2.2.1 (ci := 2) rfl rfl mdx_yJ2_add (RC.ofL (show h_118 (ad_104 20 y9 0) = some (pL (rg (τ.2 28 y9) (fun n => bx K (τ.2 27 (20 * y9 + n))))) from R_12.at 20 y9 0 ⟨hzt, (show (y9 : Int) < τ.1 19 by rw [t19]; omega), rfl⟩)) (by decide) (by decide) rfl (Nat.le_of_ble_eq_true rfl) dX1_vote_135 (qI.k (fun r_135 s_135 q_135 => ?_))
            obtain ⟨e1q_135, e2q_135⟩ := q_135
            subst r_135
            have R_13 : Rel K s_135 o ad_104 (setA (setA (setA τ 22 (p).toNat 1) 27 (20 * (y9 : Int) + τ.2 28 y9).toNat v) 28 y9 (τ.2 28 y9 + 1)) := R_12.ballot (hBt.a (by show (0 : Int) ≤ 1 ∧ (1 : Int) ≤ 1; decide)) hzt (show (y9 : Int) < τ.1 19 by rw [t19]; omega) (show τ.2 28 y9 ≤ 19 by rw [u28]; exact c28) e2q_135
            refine j_pop (pc := 140) dX1_vote_140 rfl ?_
            refine j_aload_n (pc := 141) dX1_vote_141 rfl ?_
            refine j2_get fa_X1_58_X1 (show s_135 (o) = some (pO 0 [.ref (ad_104 1 0 0), .ref (ad_104 2 0 0), .ref (ad_104 3 0 0), .ref (ad_104 4 0 0), .ref (ad_104 12 0 0), IV (τ.1 0), .ref (ad_104 5 0 0), .ref (ad_104 6 0 0)]) from R_13.top1 hzt) rfl dX1_vote_142 ?_
            refine j_aload_n (pc := 145) dX1_vote_145 rfl ?_
            refine j2_get fa_X1_110_X1 (show s_135 (o) = some (pO 0 [.ref (ad_104 1 0 0), .ref (ad_104 2 0 0), .ref (ad_104 3 0 0), .ref (ad_104 4 0 0), .ref (ad_104 12 0 0), IV (τ.1 0), .ref (ad_104 5 0 0), .ref (ad_104 6 0 0)]) from R_13.top1 hzt) rfl dX1_vote_146 ?_
            have n_14 : 0 ≤ τ.1 0 ∧ τ.1 0 ≤ 2100 := hBt.1 0
            refine j_bipush (pc := 149) (a := 118) dX1_vote_149 (by decide) ?_
            refine j_iload_n (pc := 151) dX1_vote_151 rfl ?_
            refine j_room (cl' := 2 + 2) (sl' := 166 + 520) (by omega) (by omega) ?_
            refine j_callV (pc := 152) (c_note s_135 hke hfe hko8 o ad_104 (setA (setA (setA τ 22 (p).toNat 1) 27 (20 * (y9 : Int) + τ.2 28 y9).toNat v) 28 y9 (τ.2 28 y9 + 1)) R_13 (Bd.a (Bd.a (Bd.a hBt (by show (0 : Int) ≤ 1 ∧ 1 ≤ (1 : Int); omega)) (by show (0 : Int) ≤ v ∧ v ≤ (5 : Int); omega)) (by show (0 : Int) ≤ τ.2 28 y9 + 1 ∧ τ.2 28 y9 + 1 ≤ (20 : Int); omega)) hzt (by show τ.1 42 ≤ 250; omega) (τ.1 0) 118 p ⟨rfl, rfl⟩) (lw_V q901 q648 q649 q69 q650) rfl md_yX9_note (RC.of2 (show s_135 (ad_104 12 0 0) = some (pO 7 [IV (τ.1 15), IV (τ.1 16), IV (τ.1 17), .ref (ad_104 13 0 0), .ref (ad_104 14 0 0), .ref (ad_104 15 0 0), .ref (ad_104 16 0 0), .ref (ad_104 17 0 0), .ref (ad_104 18 0 0), IV (τ.1 14)]) from R_13.at 12 0 0 ⟨hzt, rfl, rfl⟩) rfl) (by decide) (by decide) rfl (Nat.le_of_ble_eq_true rfl) dX1_vote_152 (qV.k (fun s_152 q_152 => ?_))
            obtain ⟨ad_152, hk_152, R_n152⟩ := q_152
            have l28 : uA (τ.2 28) y9 (τ.2 28 y9 + 1) y9 = τ.2 28 y9 + 1 := uA_self _ _ _
            rw [← hk_152 7 (p).toNat 0 (by decide)]
            refine j_aload_n (pc := 155) dX1_vote_155 rfl ?_
            refine j2_get fa_X1_58_X1 (show s_152 (o) = some (pO 0 [.ref (ad_152 1 0 0), .ref (ad_152 2 0 0), .ref (ad_152 3 0 0), .ref (ad_152 4 0 0), .ref (ad_152 12 0 0), IV (τ.1 0), .ref (ad_152 5 0 0), .ref (ad_152 6 0 0)]) from R_n152.top1 hzt) rfl dX1_vote_156 ?_
            refine j_aload (pc := 159) dX1_vote_159 rfl ?_
            refine j_callV (pc := 161) (c_boxOf s_152 hfe o ad_152 (sNote (setA (setA (setA τ 22 (p).toNat 1) 27 (20 * (y9 : Int) + τ.2 28 y9).toNat v) 28 y9 (τ.2 28 y9 + 1)) (τ.1 0) 118 p) R_n152 (Bd.note (Bd.a (Bd.a (Bd.a hBt (by show (0 : Int) ≤ 1 ∧ 1 ≤ (1 : Int); omega)) (by show (0 : Int) ≤ v ∧ v ≤ (5 : Int); omega)) (by show (0 : Int) ≤ τ.2 28 y9 + 1 ∧ τ.2 28 y9 + 1 ≤ (20 : Int); omega)) (by omega) (by omega) (by omega) (by show τ.1 42 < 1000; omega)) hzt (p).toNat (by show ((((p).toNat) : Nat) : Int) < τ.1 9; omega) y9 (show τ.2 20 p.toNat = (y9 : Int) by rw [u20]; omega) (show (y9 : Int) < τ.1 19 by rw [t19]; omega)) (lw_V q909 q817 q818 q69 q819) rfl md_yX9_boxOf (RC.of2 (show s_152 (ad_152 12 0 0) = some (pO 7 [IV (τ.1 15), IV (τ.1 16), IV (τ.1 17), .ref (ad_152 13 0 0), .ref (ad_152 14 0 0), .ref (ad_152 15 0 0), .ref (ad_152 16 0 0), .ref (ad_152 17 0 0), .ref (ad_152 18 0 0), IV (τ.1 14)]) from R_n152.at 12 0 0 ⟨hzt, rfl, rfl⟩) rfl) (by decide) (by decide) rfl (Nat.le_of_ble_eq_true rfl) dX1_vote_161 (qR.k (fun r_161 s_161 q_161 => ?_))
            obtain ⟨e1q_161, e2q_161⟩ := q_161
            subst r_161
            subst s_161
            refine j2_get fa_X1_212_X10 (show s_152 (ad_152 19 y9 0) = some (pO 8 [.ref (ad_152 20 y9 0), .ref (ad_152 21 y9 0), va_rf (if τ.2 32 y9 = -1 then none else some (ad_152 24 y9 0)), IV (τ.2 21 y9)]) from R_n152.at 19 y9 0 ⟨hzt, (show (y9 : Int) < τ.1 19 by rw [t19]; omega), rfl⟩) rfl dX1_vote_164 ?_
            refine j_callF (pc := 167) (xm := ⟨"java/util/List", "size", "()I"⟩) (l2_size (show s_152 (ad_152 20 y9 0) = some (pL (rg (uA (τ.2 28) y9 (τ.2 28 y9 + 1) y9) (fun n => bx K (uA (τ.2 27) (20 * (y9 : Int) + τ.2 28 y9).toNat v (20 * y9 + n))))) from R_n152.at 20 y9 0 ⟨hzt, (show (y9 : Int) < τ.1 19 by rw [t19]; omega), rfl⟩)) (lw_F q155 q159 q161 q47 q163) hfe.1 (ci := 2) rfl rfl mdx_yJ2_size (RC.ofL (show s_152 (ad_152 20 y9 0) = some (pL (rg (uA (τ.2 28) y9 (τ.2 28 y9 + 1) y9) (fun n => bx K (uA (τ.2 27) (20 * (y9 : Int) + τ.2 28 y9).toNat v (20 * y9 + n))))) from R_n152.at 20 y9 0 ⟨hzt, (show (y9 : Int) < τ.1 19 by rw [t19]; omega), rfl⟩)) (by decide) (by decide) rfl (Nat.le_of_ble_eq_true rfl) dX1_vote_167 (qI.k (fun r_167 s_167 q_167 => ?_))
            obtain ⟨e1q_167, e2q_167⟩ := q_167
            subst s_167
            rw [rg_len (by omega)] at e1q_167
            subst r_167
            refine j_iret (pc := 172) rfl (hQ _ _ ?_) dX1_vote_172
            have ep : ((p.toNat : Nat) : Int) = p := by omega
            rw [ep] at hτ
            have hyt : (sNote τ (σ.1 0) 118 p).2 20 p.toNat = (y9 : Int) := by show τ.2 20 p.toNat = _; rw [u20]; omega
            have h9 := R_n152
            have eS : sCasts (sNote τ (σ.1 0) 118 p) (p.toNat : Nat) v = _ := sCasts_eq hyt
            rw [sNote_setA (by decide), sNote_setA (by decide), sNote_setA (by decide), ep, hτ] at eS
            rw [t0, hτ] at h9
            exact ⟨t3_mk ⟨⟨by omega, by omega⟩, by omega, by omega⟩ ⟨by omega, by omega⟩ ⟨by omega, ⟨hro, by omega⟩, by omega, by omega⟩, by show _ = σ.2 28 (σ.2 20 p.toNat).toNat + 1; rw [uA_self, u28, show (σ.2 20 p.toNat).toNat = y9 by omega], ad_152, by rw [eS]; exact h9⟩

theorem md_yX9_open : MD yX9_open 2 := by decide +kernel
theorem md_yJ2_indexOf : MD yJ2_indexOf 1 := by decide +kernel
theorem mdx_yJ2_indexOf : MD ⟨"java/util/List", "indexOf", "(Ljava/lang/Object;)I"⟩ 1 := by decide +kernel
set_option maxHeartbeats 4000000 in
theorem c_open {Γ : GG} {A : Nat → Prop} {K : KK} {l : Launch} (h : AL2) (hfl : l.stackTraces = false) (hke : KE Γ A K) (hfe : FE Γ) (hIOB : TH5 Γ A "java/lang/IndexOutOfBoundsException") (hIAE : TH5 Γ A "java/lang/IllegalArgumentException") (hISE : TH5 Γ A "java/lang/IllegalStateException") (o : Nat) (ad : AD) (σ : MM) (hR : Rel K h o ad σ) (hB : Bd σ) (p : Int) (hp : RR p) (hko8 : KO Γ RX8) (hbe : BE Γ A K) (hI : In σ) (hn : σ.1 42 ≤ 240) : Ct Γ A (Rep2 Γ A K) l yX1_open (ws_ yX1_open cX1_open 4 (some .int)) 13 9 650 [.ref o, IV p] h (qI (fun (r : Int) (h' : AL2) => t2 (isP σ p) (σ.1 14 = 3 ∧ sSealed σ p (σ.1 26).toNat ≠ -1) = 0 ∧ r = sSealed σ p (σ.1 26).toNat ∧ ∃ ad', Rel K h' o ad' (sNote (sCasts (setA σ 25 (sSealed σ p (σ.1 26).toNat).toNat 2) p (σ.2 24 (sSealed σ p (σ.1 26).toNat).toNat)) (σ.1 0) 111 p))) (fun (E : String) (h' : AL2) => xE ["java/lang/IndexOutOfBoundsException", "java/lang/IllegalStateException"] (t2 (isP σ p) (σ.1 14 = 3 ∧ sSealed σ p (σ.1 26).toNat ≠ -1)) E ∧ ∃ ad', Rel K h' o ad' σ) := by
  refine Ct.ofJ (own := RX1) (nm := "open") (lo := [some (.ref o), some (IV p), none, none]) pn_X1 rfl rfl (List.forall_mem_cons.mpr ⟨rfl, (List.forall_mem_cons.mpr ⟨rfl, (fun _ h => nomatch h)⟩)⟩) (Nat.le_of_ble_eq_true rfl) rfl ?_
  have hQ : ∀ (r : Int) (h' : AL2), (t2 (isP σ p) (σ.1 14 = 3 ∧ sSealed σ p (σ.1 26).toNat ≠ -1) = 0 ∧ r = sSealed σ p (σ.1 26).toNat ∧ ∃ ad', Rel K h' o ad' (sNote (sCasts (setA σ 25 (sSealed σ p (σ.1 26).toNat).toNat 2) p (σ.2 24 (sSealed σ p (σ.1 26).toNat).toNat)) (σ.1 0) 111 p)) → (qI (fun (r : Int) (h' : AL2) => t2 (isP σ p) (σ.1 14 = 3 ∧ sSealed σ p (σ.1 26).toNat ≠ -1) = 0 ∧ r = sSealed σ p (σ.1 26).toNat ∧ ∃ ad', Rel K h' o ad' (sNote (sCasts (setA σ 25 (sSealed σ p (σ.1 26).toNat).toNat 2) p (σ.2 24 (sSealed σ p (σ.1 26).toNat).toNat)) (σ.1 0) 111 p))) (some (IV r)) h' := fun r h' h => ⟨r, rfl, h⟩
  generalize (qI (fun (r : Int) (h' : AL2) => t2 (isP σ p) (σ.1 14 = 3 ∧ sSealed σ p (σ.1 26).toNat ≠ -1) = 0 ∧ r = sSealed σ p (σ.1 26).toNat ∧ ∃ ad', Rel K h' o ad' (sNote (sCasts (setA σ 25 (sSealed σ p (σ.1 26).toNat).toNat 2) p (σ.2 24 (sSealed σ p (σ.1 26).toNat).toNat)) (σ.1 0) 111 p))) = QP at hQ ⊢
  have hX : ∀ (E : String) (h' : AL2), (xE ["java/lang/IndexOutOfBoundsException", "java/lang/IllegalStateException"] (t2 (isP σ p) (σ.1 14 = 3 ∧ sSealed σ p (σ.1 26).toNat ≠ -1)) E ∧ ∃ ad', Rel K h' o ad' σ) → (fun (E : String) (h' : AL2) => xE ["java/lang/IndexOutOfBoundsException", "java/lang/IllegalStateException"] (t2 (isP σ p) (σ.1 14 = 3 ∧ sSealed σ p (σ.1 26).toNat ≠ -1)) E ∧ ∃ ad', Rel K h' o ad' σ) E h' := fun E h' h => h
  generalize (fun (E : String) (h' : AL2) => xE ["java/lang/IndexOutOfBoundsException", "java/lang/IllegalStateException"] (t2 (isP σ p) (σ.1 14 = 3 ∧ sSealed σ p (σ.1 26).toNat ≠ -1)) E ∧ ∃ ad', Rel K h' o ad' σ) = XP at hX ⊢
  have n9 : 0 ≤ σ.1 9 ∧ σ.1 9 ≤ 20 := hB.1 9
  have n26 : 0 ≤ σ.1 26 ∧ σ.1 26 ≤ 60 := hB.1 26
  have n19 : 0 ≤ σ.1 19 ∧ σ.1 19 ≤ 5 := hB.1 19
  have h23 : ∀ i : Nat, (i : Int) < σ.1 26 → 0 ≤ σ.2 23 i ∧ σ.2 23 i < σ.1 9 := fun i hi => ⟨(hB.2 23 i).1, (hI.2.2.2.2.2.1 i hi).1⟩
  refine j_aload_n (pc := 0) dX1_open_0 rfl ?_
  refine j_iload_n (pc := 1) dX1_open_1 rfl ?_
  refine j_room (cl' := 6 + 3) (sl' := 636 + 14) (by omega) (by omega) ?_
  refine j_callVx (pc := 2) (c_find h hfl hke hfe hIOB o ad σ hR hB p (by omega)) (lw_V q614 q616 qs12 q44 q617) rfl md_yX1_find (RC.of2 (show h (o) = some (pO 0 [.ref (ad 1 0 0), .ref (ad 2 0 0), .ref (ad 3 0 0), .ref (ad 4 0 0), va_rf (if σ.1 14 = 0 then none else some (ad 12 0 0)), IV (σ.1 0), .ref (ad 5 0 0), .ref (ad 6 0 0)]) from hR.top) rfl) (nT _) (fun E x9 hx9 => by obtain ⟨rfl, hn9, hR9⟩ := hx9; exact hX _ _ ⟨xE_of 0 (by unfold t2; (repeat' split) <;> omega) rfl, ad, hR9⟩) (by decide) (by decide) rfl (Nat.le_of_ble_eq_true rfl) dX1_open_2 (qR.k (fun r_2 s_2 q_2 => ?_))
  obtain ⟨q_2p, q_2e, q_2R⟩ := q_2
  subst r_2
  have ep : ((p.toNat : Nat) : Int) = p := by omega
  refine j_astore_n (pc := 5) dX1_open_5 (by decide) (lo' := [some (.ref o), some (IV p), some (.ref (ad 7 (p).toNat 0)), none]) rfl ?_
  refine j_aload_n (pc := 6) dX1_open_6 rfl ?_
  refine j_callV (pc := 7) (c_stage s_2 o ad σ q_2R hB) (lw_V q172 q147 q148 q44 q149) rfl md_yX1_stage (RC.of2 (show s_2 (o) = some (pO 0 [.ref (ad 1 0 0), .ref (ad 2 0 0), .ref (ad 3 0 0), .ref (ad 4 0 0), va_rf (if σ.1 14 = 0 then none else some (ad 12 0 0)), IV (σ.1 0), .ref (ad 5 0 0), .ref (ad 6 0 0)]) from q_2R.top) rfl) (by decide) (by decide) rfl (Nat.le_of_ble_eq_true rfl) dX1_open_7 (qI.k (fun r_7 s_7 q_7 => ?_))
  obtain ⟨e1q_7, e2q_7⟩ := q_7
  subst r_7
  subst s_7
  have n14_7 : 0 ≤ σ.1 14 ∧ σ.1 14 ≤ 5 := hB.1 14
  refine j_iconst (pc := 10) dX1_open_10 rfl ?_
  refine j_icmp_ne (pc := 11) (tgt := 29) dX1_open_11 (by decide) (by omega) (by decide) (fun c_11 => ?_) (fun c_11 => ?_)
  · refine j_iconst (pc := 29) dX1_open_29 rfl ?_
    refine j_room (cl' := 5 + 1) (sl' := 630 + 6) (by omega) (by omega) ?_
    refine j_callSx (pc := 30) (c_allow s_2 hfl RG.of2 hISE 0 (Or.inl rfl)) (lw_S q443 q444 q44 q445) md_yX1_allow (nT _) (fun E x9 hx9 => by obtain ⟨hn9, rfl, rfl⟩ := hx9; (try have hn8 := bI_0 hn9); exact hX _ _ ⟨xE_of 1 (by unfold t2; (repeat' split) <;> omega) rfl, ad, q_2R⟩) (by decide) (by decide) rfl (Nat.le_of_ble_eq_true rfl) dX1_open_30 (qV.k (fun s_30 q_30 => ?_))
    exact absurd q_30.1 (by decide)
  · have hz : σ.1 14 ≠ 0 := by omega
    refine j_aload_n (pc := 14) dX1_open_14 rfl ?_
    refine j2_get fa_X1_58_X1 (show s_2 (o) = some (pO 0 [.ref (ad 1 0 0), .ref (ad 2 0 0), .ref (ad 3 0 0), .ref (ad 4 0 0), .ref (ad 12 0 0), IV (σ.1 0), .ref (ad 5 0 0), .ref (ad 6 0 0)]) from q_2R.top1 hz) rfl dX1_open_15 ?_
    refine j_aload_n (pc := 18) dX1_open_18 rfl ?_
    refine j_callV (pc := 19) (c_sealedOf s_2 hfe o ad σ q_2R hB hz h23 (p).toNat (by omega)) (lw_V q918 q639 q640 q69 q641) rfl md_yX9_sealedOf (RC.of2 (show s_2 (ad 12 0 0) = some (pO 7 [IV (σ.1 15), IV (σ.1 16), IV (σ.1 17), .ref (ad 13 0 0), .ref (ad 14 0 0), .ref (ad 15 0 0), .ref (ad 16 0 0), .ref (ad 17 0 0), .ref (ad 18 0 0), IV (σ.1 14)]) from q_2R.at 12 0 0 ⟨hz, rfl, rfl⟩) rfl) (by decide) (by decide) rfl (Nat.le_of_ble_eq_true rfl) dX1_open_19 (qN.k (fun r_19 s_19 q_19 => ?_))
    obtain ⟨e1q_19, e2q_19⟩ := q_19
    subst s_19
    have rsq_19 := sSealed_rng σ (p).toNat (σ.1 26).toNat
    rcases sealA_or ad (z := sSealed σ (p).toNat (σ.1 26).toNat) (by omega) with ⟨hj, ej⟩ | ⟨j9, hj, ej⟩
    · rw [ej] at e1q_19
      subst r_19
      rw [ep] at hj
      rw [ep] at rsq_19
      refine j_ifnullN (pc := 22) (tgt := 29) dX1_open_22 (by decide) ?_
      refine j_iconst (pc := 29) dX1_open_29 rfl ?_
      refine j_room (cl' := 5 + 1) (sl' := 630 + 6) (by omega) (by omega) ?_
      refine j_callSx (pc := 30) (c_allow s_2 hfl RG.of2 hISE 0 (Or.inl rfl)) (lw_S q443 q444 q44 q445) md_yX1_allow (nT _) (fun E x9 hx9 => by obtain ⟨hn9, rfl, rfl⟩ := hx9; (try have hn8 := bI_0 hn9); exact hX _ _ ⟨xE_of 1 (by unfold t2; (repeat' split) <;> omega) rfl, ad, q_2R⟩) (by decide) (by decide) rfl (Nat.le_of_ble_eq_true rfl) dX1_open_30 (qV.k (fun s_30_1 q_30_1 => ?_))
      exact absurd q_30_1.1 (by decide)
    · rw [ej] at e1q_19
      subst r_19
      rw [ep] at hj
      rw [ep] at rsq_19
      obtain ⟨x9, hx9⟩ : ∃ x9 : Nat, x9 = (σ.2 23 j9).toNat := ⟨_, rfl⟩
      refine j_ifnull (pc := 22) dX1_open_22 ?_
      refine j_iconst (pc := 25) dX1_open_25 rfl ?_
      refine j_goto (pc := 26) (tgt := 30) dX1_open_26 (by decide) ?_
      refine j_room (cl' := 5 + 1) (sl' := 630 + 6) (by omega) (by omega) ?_
      refine j_callSx (pc := 30) (c_allow s_2 hfl RG.of2 hISE 1 (Or.inr rfl)) (lw_S q443 q444 q44 q445) md_yX1_allow (nT _) (fun E x9 hx9 => by obtain ⟨hn9, rfl, rfl⟩ := hx9; (try have hn8 := bI_0 hn9); exact hX _ _ ⟨xE_of 1 (by unfold t2; (repeat' split) <;> omega) rfl, ad, q_2R⟩) (by decide) (by decide) rfl (Nat.le_of_ble_eq_true rfl) dX1_open_30 (qV.k (fun s_30_1 q_30_1 => ?_))
      obtain ⟨q_30_1b, q_30_1e⟩ := q_30_1
      subst s_30_1
      refine j_aload_n (pc := 33) dX1_open_33 rfl ?_
      refine j2_get fa_X1_58_X1 (show s_2 (o) = some (pO 0 [.ref (ad 1 0 0), .ref (ad 2 0 0), .ref (ad 3 0 0), .ref (ad 4 0 0), .ref (ad 12 0 0), IV (σ.1 0), .ref (ad 5 0 0), .ref (ad 6 0 0)]) from q_2R.top1 hz) rfl dX1_open_34 ?_
      refine j_aload_n (pc := 37) dX1_open_37 rfl ?_
      refine j_callV (pc := 38) (c_sealedOf s_2 hfe o ad σ q_2R hB hz h23 (p).toNat (by omega)) (lw_V q918 q639 q640 q69 q641) rfl md_yX9_sealedOf (RC.of2 (show s_2 (ad 12 0 0) = some (pO 7 [IV (σ.1 15), IV (σ.1 16), IV (σ.1 17), .ref (ad 13 0 0), .ref (ad 14 0 0), .ref (ad 15 0 0), .ref (ad 16 0 0), .ref (ad 17 0 0), .ref (ad 18 0 0), IV (σ.1 14)]) from q_2R.at 12 0 0 ⟨hz, rfl, rfl⟩) rfl) (by decide) (by decide) rfl (Nat.le_of_ble_eq_true rfl) dX1_open_38 (qN.k (fun r_38 s_38 q_38 => ?_))
      obtain ⟨e1q_38, e2q_38⟩ := q_38
      subst s_38
      rw [ep, hj] at e1q_38
      have e3q_38 : r_38 = some (ad 25 j9 0) := e1q_38.trans (if_neg (by omega))
      subst r_38
      refine j_astore_n (pc := 41) dX1_open_41 (by decide) (lo' := [some (.ref o), some (IV p), some (.ref (ad 7 (p).toNat 0)), some (.ref (ad 25 j9 0))]) rfl ?_
      have rz := sSealed_some (σ.1 26).toNat (show sSealed σ p (σ.1 26).toNat ≠ -1 by omega)
      rw [hj] at rz
      have rz1 : σ.2 23 j9 = p := rz.1
      have xe : x9 = p.toNat := by rw [hx9, rz1]
      have ro := (hI.2.2.2.2.2.1 j9 (by omega)).2
      have rv := hI.2.2.2.2.2.2.1 j9 (by omega) rz.2
      rw [rz1] at ro rv
      have rc := hI.casts_le (p := p) (by omega) ro rv
      have q2 := hI.2.2.2.1 p.toNat (by omega) ro
      have q3 : σ.1 0 = σ.1 15 := hI.2.2.2.2.2.2.2.2.2.2.2.2.1 (by omega)
      obtain ⟨y9, hy9⟩ : ∃ y9 : Nat, σ.2 20 p.toNat = (y9 : Int) := ⟨(σ.2 20 p.toNat).toNat, by omega⟩
      rw [hy9, Int.toNat_natCast] at rc
      refine j_aload_n (pc := 42) dX1_open_42 rfl ?_
      refine j2_get fa_X1_58_X1 (show s_2 (o) = some (pO 0 [.ref (ad 1 0 0), .ref (ad 2 0 0), .ref (ad 3 0 0), .ref (ad 4 0 0), .ref (ad 12 0 0), IV (σ.1 0), .ref (ad 5 0 0), .ref (ad 6 0 0)]) from q_2R.top1 hz) rfl dX1_open_43 ?_
      refine j_aload_n (pc := 46) dX1_open_46 rfl ?_
      refine j_bipush (pc := 47) (a := 111) dX1_open_47 (by decide) ?_
      refine j_room (cl' := 1 + 4) (sl' := 30 + 600) (by omega) (by omega) ?_
      refine j_callV (pc := 49) (c_xopen s_2 hke hfe hbe hko8 o ad σ q_2R hB hz j9 (by omega) x9 hx9 (by omega) y9 (by rw [xe]; exact hy9) (by omega) rc.2 (by omega) 111 ⟨rfl, rfl⟩) (lw_V q919 q813 q814 q69 q815) rfl md_yX9_open (RC.of2 (show s_2 (ad 12 0 0) = some (pO 7 [IV (σ.1 15), IV (σ.1 16), IV (σ.1 17), .ref (ad 13 0 0), .ref (ad 14 0 0), .ref (ad 15 0 0), .ref (ad 16 0 0), .ref (ad 17 0 0), .ref (ad 18 0 0), IV (σ.1 14)]) from q_2R.at 12 0 0 ⟨hz, rfl, rfl⟩) rfl) (by decide) (by decide) rfl (Nat.le_of_ble_eq_true rfl) dX1_open_49 (qV.k (fun s_49 q_49 => ?_))
      obtain ⟨ad_49, hk_49, R_o49⟩ := q_49
      have ea : ad_49 25 j9 0 = ad 25 j9 0 := hk_49 25 j9 0 (by decide)
      refine j_aload_n (pc := 52) dX1_open_52 rfl ?_
      refine j2_get fa_X1_58_X1 (show s_49 (o) = some (pO 0 [.ref (ad_49 1 0 0), .ref (ad_49 2 0 0), .ref (ad_49 3 0 0), .ref (ad_49 4 0 0), .ref (ad_49 12 0 0), IV (σ.1 0), .ref (ad_49 5 0 0), .ref (ad_49 6 0 0)]) from R_o49.top1 hz) rfl dX1_open_53 ?_
      refine j2_get fa_X1_193_X9 (show s_49 (ad_49 12 0 0) = some (pO 7 [IV (σ.1 15), IV (σ.1 16), IV (σ.1 17), .ref (ad_49 13 0 0), .ref (ad_49 14 0 0), .ref (ad_49 15 0 0), .ref (ad_49 16 0 0), .ref (ad_49 17 0 0), .ref (ad_49 18 0 0), IV (σ.1 14)]) from R_o49.at 12 0 0 ⟨hz, rfl, rfl⟩) rfl dX1_open_56 ?_
      refine j_aload_n (pc := 59) dX1_open_59 rfl ?_
      refine j_callF (pc := 60) (xm := ⟨"java/util/List", "indexOf", "(Ljava/lang/Object;)I"⟩) (l2_indexOf (show s_49 (ad_49 17 0 0) = some (pL (rg (σ.1 26) (fun q => ad_49 25 q 0))) from R_o49.at 17 0 0 ⟨hz, rfl, rfl⟩) (y := ad 25 j9 0) (by rw [← ea]; exact Or.inl ⟨9, _, R_o49.at 25 j9 0 ⟨hz, (by show (j9 : Int) < σ.1 26; omega), rfl⟩, by decide, rfl⟩) (j := j9) (by rw [← ea]; exact rg_at (i := (j9 : Int)) (by omega) (by show (j9 : Int) < σ.1 26; omega)) (fun i9 hi9 z9 => by have z2 := (rg_at (n := σ.1 26) (f := fun q => ad_49 25 q 0) (i := (i9 : Int)) (by omega) (by omega)).symm.trans z9; rw [← ea] at z2; have := (R_o49.2.2 25 i9 0 25 j9 0 ⟨hz, (by show (i9 : Int) < σ.1 26; omega), rfl⟩ ⟨hz, (by show (j9 : Int) < σ.1 26; omega), rfl⟩ (Option.some.inj z2)).2.1; omega)) (lw_F q921 q924 q926 q47 q928) hfe.2.2.2.2.2 (ci := 2) rfl rfl mdx_yJ2_indexOf (RC.ofL (show s_49 (ad_49 17 0 0) = some (pL (rg (σ.1 26) (fun q => ad_49 25 q 0))) from R_o49.at 17 0 0 ⟨hz, rfl, rfl⟩)) (by decide) (by decide) rfl (Nat.le_of_ble_eq_true rfl) dX1_open_60 (qI.k (fun r_60 s_60 q_60 => ?_))
      obtain ⟨e1q_60, e2q_60⟩ := q_60
      subst r_60
      subst s_60
      refine j_iret (pc := 65) rfl (hQ _ _ ?_) dX1_open_65
      have h9 := R_o49
      rw [rz1, ← q3] at h9
      exact ⟨by unfold t2; (repeat' split) <;> omega, hj.symm, ad_49, by rw [hj]; exact h9⟩

