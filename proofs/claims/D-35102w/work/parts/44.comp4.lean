set_option maxRecDepth 100000
theorem In.s1 {σ : MM} (h : In σ) (h5 : σ.1 14 ≤ 1) : σ.1 19 = 0 ∧ σ.1 26 = 0 ∧ ∀ p : Nat, p < 20 → σ.2 20 p = -1 := h.2.2.2.2.2.2.2.2.2.2.1 h5
set_option maxHeartbeats 4000000 in
theorem c_isRolled0 {Γ : GG} {A : Nat → Prop} {K : KK} {l : Launch} (h : AL2) (o : Nat) (ad : AD) (σ : MM) (hR : Rel K h o ad σ) (hB : Bd σ) (hI : In σ) (p : Nat) (hp : (p : Int) < σ.1 9) (hz : σ.1 14 = 0) : Ct Γ A (Rep2 Γ A K) l yX1_isRolled (ws_ yX1_isRolled cX1_isRolled 2 (some .boolean)) 1 0 0 [.ref o, .ref (ad 7 p 0)] h (qI (fun (r : Int) (h' : AL2) => r = bI (σ.2 20 p ≠ -1) ∧ h' = h)) X0 := by
  refine Ct.ofJ (own := RX1) (nm := "isRolled") (lo := [some (.ref o), some (.ref (ad 7 p 0))]) pn_X1 rfl rfl (List.forall_mem_cons.mpr ⟨rfl, (List.forall_mem_cons.mpr ⟨rfl, (fun _ h => nomatch h)⟩)⟩) (Nat.le_of_ble_eq_true rfl) rfl ?_
  have hQ : ∀ (r : Int) (h' : AL2), (r = bI (σ.2 20 p ≠ -1) ∧ h' = h) → (qI (fun (r : Int) (h' : AL2) => r = bI (σ.2 20 p ≠ -1) ∧ h' = h)) (some (IV r)) h' := fun r h' h => ⟨r, rfl, h⟩
  generalize (qI (fun (r : Int) (h' : AL2) => r = bI (σ.2 20 p ≠ -1) ∧ h' = h)) = QP at hQ ⊢
  have n9 : 0 ≤ σ.1 9 ∧ σ.1 9 ≤ 20 := hB.1 9
  have e20 := (hI.s1 (by omega)).2.2 p (by omega)
  refine j_aload_n (pc := 0) dX1_isRolled_0 rfl ?_
  refine j2_get fa_X1_58_X1 (show h (o) = some (pO 0 [.ref (ad 1 0 0), .ref (ad 2 0 0), .ref (ad 3 0 0), .ref (ad 4 0 0), .null, IV (σ.1 0), .ref (ad 5 0 0), .ref (ad 6 0 0)]) from hR.top0 hz) rfl dX1_isRolled_1 ?_
  refine j_ifnullN (pc := 4) (tgt := 27) dX1_isRolled_4 (by decide) ?_
  refine j_iconst (pc := 27) dX1_isRolled_27 rfl ?_
  refine j_zret (pc := 28) rfl (Or.inl rfl) (hQ _ _ ?_) dX1_isRolled_28
  exact ⟨by unfold bI; split <;> omega, rfl⟩

theorem fa_X1_165_X9 : FA RX1 165 7 4 := ⟨RX9, TX9, 10, "BallotFoundry$Election", rfl, in_X9, by decide, q722, Or.inl rfl⟩
theorem fa_X1_178_X4 : FA RX1 178 4 0 := ⟨RX4, TX4, 4, "BallotFoundry$Person", rfl, in_X4, by decide, q572, Or.inl rfl⟩
set_option maxHeartbeats 4000000 in
theorem c_isRolled1 {Γ : GG} {A : Nat → Prop} {K : KK} {l : Launch} (h : AL2) (o : Nat) (ad : AD) (σ : MM) (hR : Rel K h o ad σ) (hB : Bd σ) (hI : In σ) (p : Nat) (hp : (p : Int) < σ.1 9) (hz : σ.1 14 ≠ 0) : Ct Γ A (Rep2 Γ A K) l yX1_isRolled (ws_ yX1_isRolled cX1_isRolled 2 (some .boolean)) 1 0 0 [.ref o, .ref (ad 7 p 0)] h (qI (fun (r : Int) (h' : AL2) => r = bI (σ.2 20 p ≠ -1) ∧ h' = h)) X0 := by
  refine Ct.ofJ (own := RX1) (nm := "isRolled") (lo := [some (.ref o), some (.ref (ad 7 p 0))]) pn_X1 rfl rfl (List.forall_mem_cons.mpr ⟨rfl, (List.forall_mem_cons.mpr ⟨rfl, (fun _ h => nomatch h)⟩)⟩) (Nat.le_of_ble_eq_true rfl) rfl ?_
  have hQ : ∀ (r : Int) (h' : AL2), (r = bI (σ.2 20 p ≠ -1) ∧ h' = h) → (qI (fun (r : Int) (h' : AL2) => r = bI (σ.2 20 p ≠ -1) ∧ h' = h)) (some (IV r)) h' := fun r h' h => ⟨r, rfl, h⟩
  generalize (qI (fun (r : Int) (h' : AL2) => r = bI (σ.2 20 p ≠ -1) ∧ h' = h)) = QP at hQ ⊢
  have n9 : 0 ≤ σ.1 9 ∧ σ.1 9 ≤ 20 := hB.1 9
  refine j_aload_n (pc := 0) dX1_isRolled_0 rfl ?_
  refine j2_get fa_X1_58_X1 (show h (o) = some (pO 0 [.ref (ad 1 0 0), .ref (ad 2 0 0), .ref (ad 3 0 0), .ref (ad 4 0 0), .ref (ad 12 0 0), IV (σ.1 0), .ref (ad 5 0 0), .ref (ad 6 0 0)]) from hR.top1 hz) rfl dX1_isRolled_1 ?_
  refine j_ifnull (pc := 4) dX1_isRolled_4 ?_
  refine j_aload_n (pc := 7) dX1_isRolled_7 rfl ?_
  refine j2_get fa_X1_58_X1 (show h (o) = some (pO 0 [.ref (ad 1 0 0), .ref (ad 2 0 0), .ref (ad 3 0 0), .ref (ad 4 0 0), .ref (ad 12 0 0), IV (σ.1 0), .ref (ad 5 0 0), .ref (ad 6 0 0)]) from hR.top1 hz) rfl dX1_isRolled_8 ?_
  refine j2_get fa_X1_165_X9 (show h (ad 12 0 0) = some (pO 7 [IV (σ.1 15), IV (σ.1 16), IV (σ.1 17), .ref (ad 13 0 0), .ref (ad 14 0 0), .ref (ad 15 0 0), .ref (ad 16 0 0), .ref (ad 17 0 0), .ref (ad 18 0 0), IV (σ.1 14)]) from hR.at 12 0 0 ⟨hz, rfl, rfl⟩) rfl dX1_isRolled_11 ?_
  refine j_aload_n (pc := 14) dX1_isRolled_14 rfl ?_
  refine j2_get fa_X1_178_X4 (show h (ad 7 p 0) = some (pO 4 [IV ((p : Nat) : Int), IV (σ.2 7 p), .ref (ad 9 p 0), IV (σ.2 8 p)]) from hR.at 7 p 0 ⟨hp, rfl⟩) rfl dX1_isRolled_15 ?_
  refine j2_iald (i := ((p : Nat) : Int)) (show h (ad 14 0 0) = some (pA 0 20 (σ.2 20)) from hR.at 14 0 0 ⟨hz, rfl, rfl⟩) (by show 0 ≤ ((p : Nat) : Int) ∧ ((p : Nat) : Int) < ((20 : Nat) : Int); omega) dX1_isRolled_18 ?_
  refine j_eqI (σ.2 20 p) rfl ?_
  have n_1 : (-1) ≤ σ.2 20 p ∧ σ.2 20 p ≤ 4 := hB.2 20 p
  refine j_iconst (pc := 19) dX1_isRolled_19 rfl ?_
  refine j_icmp_eq (pc := 20) (tgt := 27) dX1_isRolled_20 (by decide) (by omega) (by decide) (fun c_20 => ?_) (fun c_20 => ?_)
  · refine j_iconst (pc := 27) dX1_isRolled_27 rfl ?_
    refine j_zret (pc := 28) rfl (Or.inl rfl) (hQ _ _ ?_) dX1_isRolled_28
    exact ⟨by unfold bI; split <;> omega, rfl⟩
  · refine j_iconst (pc := 23) dX1_isRolled_23 rfl ?_
    refine j_goto (pc := 24) (tgt := 28) dX1_isRolled_24 (by decide) ?_
    refine j_zret (pc := 28) rfl (Or.inr rfl) (hQ _ _ ?_) dX1_isRolled_28
    exact ⟨by unfold bI; split <;> omega, rfl⟩

theorem c_isRolled {Γ : GG} {A : Nat → Prop} {K : KK} {l : Launch} (h : AL2) (o : Nat) (ad : AD) (σ : MM) (hR : Rel K h o ad σ) (hB : Bd σ) (hI : In σ) (p : Nat) (hp : (p : Int) < σ.1 9) : Ct Γ A (Rep2 Γ A K) l yX1_isRolled (ws_ yX1_isRolled cX1_isRolled 2 (some .boolean)) 1 0 0 [.ref o, .ref (ad 7 p 0)] h (qI (fun (r : Int) (h' : AL2) => r = bI (σ.2 20 p ≠ -1) ∧ h' = h)) X0 := by
  by_cases hz : σ.1 14 = 0
  · exact c_isRolled0 h o ad σ hR hB hI p hp hz
  · exact c_isRolled1 h o ad σ hR hB hI p hp hz

theorem md_yX1_isRolled : MD yX1_isRolled 1 := by decide +kernel
set_option maxHeartbeats 4000000 in
theorem c_isOnRoll {Γ : GG} {A : Nat → Prop} {K : KK} {l : Launch} (h : AL2) (hfl : l.stackTraces = false) (hke : KE Γ A K) (hfe : FE Γ) (hIOB : TH5 Γ A "java/lang/IndexOutOfBoundsException") (hIAE : TH5 Γ A "java/lang/IllegalArgumentException") (hISE : TH5 Γ A "java/lang/IllegalStateException") (o : Nat) (ad : AD) (σ : MM) (hR : Rel K h o ad σ) (hB : Bd σ) (p : Int) (hp : RR p) (hI : In σ) : Ct Γ A (Rep2 Γ A K) l yX1_isOnRoll (ws_ yX1_isOnRoll cX1_isOnRoll 2 (some .boolean)) 10 3 14 [.ref o, IV p] h (qI (fun (r : Int) (h' : AL2) => t1 (isP σ p) = 0 ∧ r = bI (σ.2 20 p.toNat ≠ -1) ∧ ∃ ad', Rel K h' o ad' (σ))) (fun (E : String) (h' : AL2) => xE ["java/lang/IndexOutOfBoundsException"] (t1 (isP σ p)) E ∧ ∃ ad', Rel K h' o ad' σ) := by
  refine Ct.ofJ (own := RX1) (nm := "isOnRoll") (lo := [some (.ref o), some (IV p)]) pn_X1 rfl rfl (List.forall_mem_cons.mpr ⟨rfl, (List.forall_mem_cons.mpr ⟨rfl, (fun _ h => nomatch h)⟩)⟩) (Nat.le_of_ble_eq_true rfl) rfl ?_
  have hQ : ∀ (r : Int) (h' : AL2), (t1 (isP σ p) = 0 ∧ r = bI (σ.2 20 p.toNat ≠ -1) ∧ ∃ ad', Rel K h' o ad' (σ)) → (qI (fun (r : Int) (h' : AL2) => t1 (isP σ p) = 0 ∧ r = bI (σ.2 20 p.toNat ≠ -1) ∧ ∃ ad', Rel K h' o ad' (σ))) (some (IV r)) h' := fun r h' h => ⟨r, rfl, h⟩
  generalize (qI (fun (r : Int) (h' : AL2) => t1 (isP σ p) = 0 ∧ r = bI (σ.2 20 p.toNat ≠ -1) ∧ ∃ ad', Rel K h' o ad' (σ))) = QP at hQ ⊢
  have hX : ∀ (E : String) (h' : AL2), (xE ["java/lang/IndexOutOfBoundsException"] (t1 (isP σ p)) E ∧ ∃ ad', Rel K h' o ad' σ) → (fun (E : String) (h' : AL2) => xE ["java/lang/IndexOutOfBoundsException"] (t1 (isP σ p)) E ∧ ∃ ad', Rel K h' o ad' σ) E h' := fun E h' h => h
  generalize (fun (E : String) (h' : AL2) => xE ["java/lang/IndexOutOfBoundsException"] (t1 (isP σ p)) E ∧ ∃ ad', Rel K h' o ad' σ) = XP at hX ⊢
  have n9 : 0 ≤ σ.1 9 ∧ σ.1 9 ≤ 20 := hB.1 9
  refine j_aload_n (pc := 0) dX1_isOnRoll_0 rfl ?_
  refine j_aload_n (pc := 1) dX1_isOnRoll_1 rfl ?_
  refine j_iload_n (pc := 2) dX1_isOnRoll_2 rfl ?_
  refine j_room (cl' := 0 + 3) (sl' := 0 + 14) (by omega) (by omega) ?_
  refine j_callVx (pc := 3) (c_find h hfl hke hfe hIOB o ad σ hR hB p (by omega)) (lw_V q614 q616 qs12 q44 q617) rfl md_yX1_find (RC.of2 (show h (o) = some (pO 0 [.ref (ad 1 0 0), .ref (ad 2 0 0), .ref (ad 3 0 0), .ref (ad 4 0 0), va_rf (if σ.1 14 = 0 then none else some (ad 12 0 0)), IV (σ.1 0), .ref (ad 5 0 0), .ref (ad 6 0 0)]) from hR.top) rfl) (nT _) (fun E x9 hx9 => by obtain ⟨rfl, hn9, hR9⟩ := hx9; exact hX _ _ ⟨xE_of 0 (by unfold t1; (repeat' split) <;> omega) rfl, ad, hR9⟩) (by decide) (by decide) rfl (Nat.le_of_ble_eq_true rfl) dX1_isOnRoll_3 (qR.k (fun r_3 s_3 q_3 => ?_))
  obtain ⟨q_3p, q_3e, q_3R⟩ := q_3
  subst r_3
  refine j_callV (pc := 6) (c_isRolled s_3 o ad σ q_3R hB hI (p).toNat (by omega)) (lw_V q848 q850 qs16 q44 q851) rfl md_yX1_isRolled (RC.of2 (show s_3 (o) = some (pO 0 [.ref (ad 1 0 0), .ref (ad 2 0 0), .ref (ad 3 0 0), .ref (ad 4 0 0), va_rf (if σ.1 14 = 0 then none else some (ad 12 0 0)), IV (σ.1 0), .ref (ad 5 0 0), .ref (ad 6 0 0)]) from q_3R.top) rfl) (by decide) (by decide) rfl (Nat.le_of_ble_eq_true rfl) dX1_isOnRoll_6 (qI.k (fun r_6 s_6 q_6 => ?_))
  obtain ⟨e1q_6, e2q_6⟩ := q_6
  subst r_6
  subst s_6
  refine j_zret (pc := 9) rfl (bI_01 _) (hQ _ _ ?_) dX1_isOnRoll_9
  exact ⟨by unfold t1; (repeat' split) <;> omega, rfl, ad, q_3R⟩

set_option maxHeartbeats 4000000 in
theorem c_stationOf0 {Γ : GG} {A : Nat → Prop} {K : KK} {l : Launch} (h : AL2) (hfl : l.stackTraces = false) (hke : KE Γ A K) (hfe : FE Γ) (hIOB : TH5 Γ A "java/lang/IndexOutOfBoundsException") (hIAE : TH5 Γ A "java/lang/IllegalArgumentException") (hISE : TH5 Γ A "java/lang/IllegalStateException") (o : Nat) (ad : AD) (σ : MM) (hR : Rel K h o ad σ) (hB : Bd σ) (p : Int) (hp : RR p) (hI : In σ) (hz : σ.1 14 = 0) : Ct Γ A (Rep2 Γ A K) l yX1_stationOf (ws_ yX1_stationOf cX1_stationOf 3 (some .int)) 10 3 14 [.ref o, IV p] h (qI (fun (r : Int) (h' : AL2) => t1 (isP σ p) = 0 ∧ r = σ.2 20 p.toNat ∧ ∃ ad', Rel K h' o ad' (σ))) (fun (E : String) (h' : AL2) => xE ["java/lang/IndexOutOfBoundsException"] (t1 (isP σ p)) E ∧ ∃ ad', Rel K h' o ad' σ) := by
  refine Ct.ofJ (own := RX1) (nm := "stationOf") (lo := [some (.ref o), some (IV p), none]) pn_X1 rfl rfl (List.forall_mem_cons.mpr ⟨rfl, (List.forall_mem_cons.mpr ⟨rfl, (fun _ h => nomatch h)⟩)⟩) (Nat.le_of_ble_eq_true rfl) rfl ?_
  have hQ : ∀ (r : Int) (h' : AL2), (t1 (isP σ p) = 0 ∧ r = σ.2 20 p.toNat ∧ ∃ ad', Rel K h' o ad' (σ)) → (qI (fun (r : Int) (h' : AL2) => t1 (isP σ p) = 0 ∧ r = σ.2 20 p.toNat ∧ ∃ ad', Rel K h' o ad' (σ))) (some (IV r)) h' := fun r h' h => ⟨r, rfl, h⟩
  generalize (qI (fun (r : Int) (h' : AL2) => t1 (isP σ p) = 0 ∧ r = σ.2 20 p.toNat ∧ ∃ ad', Rel K h' o ad' (σ))) = QP at hQ ⊢
  have hX : ∀ (E : String) (h' : AL2), (xE ["java/lang/IndexOutOfBoundsException"] (t1 (isP σ p)) E ∧ ∃ ad', Rel K h' o ad' σ) → (fun (E : String) (h' : AL2) => xE ["java/lang/IndexOutOfBoundsException"] (t1 (isP σ p)) E ∧ ∃ ad', Rel K h' o ad' σ) E h' := fun E h' h => h
  generalize (fun (E : String) (h' : AL2) => xE ["java/lang/IndexOutOfBoundsException"] (t1 (isP σ p)) E ∧ ∃ ad', Rel K h' o ad' σ) = XP at hX ⊢
  have n9 : 0 ≤ σ.1 9 ∧ σ.1 9 ≤ 20 := hB.1 9
  refine j_aload_n (pc := 0) dX1_stationOf_0 rfl ?_
  refine j_iload_n (pc := 1) dX1_stationOf_1 rfl ?_
  refine j_room (cl' := 0 + 3) (sl' := 0 + 14) (by omega) (by omega) ?_
  refine j_callVx (pc := 2) (c_find h hfl hke hfe hIOB o ad σ hR hB p (by omega)) (lw_V q614 q616 qs12 q44 q617) rfl md_yX1_find (RC.of2 (show h (o) = some (pO 0 [.ref (ad 1 0 0), .ref (ad 2 0 0), .ref (ad 3 0 0), .ref (ad 4 0 0), .null, IV (σ.1 0), .ref (ad 5 0 0), .ref (ad 6 0 0)]) from hR.top0 hz) rfl) (nT _) (fun E x9 hx9 => by obtain ⟨rfl, hn9, hR9⟩ := hx9; exact hX _ _ ⟨xE_of 0 (by unfold t1; (repeat' split) <;> omega) rfl, ad, hR9⟩) (by decide) (by decide) rfl (Nat.le_of_ble_eq_true rfl) dX1_stationOf_2 (qR.k (fun r_2 s_2 q_2 => ?_))
  obtain ⟨q_2p, q_2e, q_2R⟩ := q_2
  subst r_2
  refine j_astore_n (pc := 5) dX1_stationOf_5 (by decide) (lo' := [some (.ref o), some (IV p), some (.ref (ad 7 (p).toNat 0))]) rfl ?_
  refine j_aload_n (pc := 6) dX1_stationOf_6 rfl ?_
  refine j2_get fa_X1_58_X1 (show s_2 (o) = some (pO 0 [.ref (ad 1 0 0), .ref (ad 2 0 0), .ref (ad 3 0 0), .ref (ad 4 0 0), .null, IV (σ.1 0), .ref (ad 5 0 0), .ref (ad 6 0 0)]) from q_2R.top0 hz) rfl dX1_stationOf_7 ?_
  refine j_ifnonnullN (pc := 10) dX1_stationOf_10 ?_
  refine j_iconst (pc := 13) dX1_stationOf_13 rfl ?_
  refine j_goto (pc := 14) (tgt := 29) dX1_stationOf_14 (by decide) ?_
  refine j_iret (pc := 29) rfl (hQ _ _ ?_) dX1_stationOf_29
  exact ⟨by unfold t1; (repeat' split) <;> omega, ((hI.s1 (by omega)).2.2 p.toNat (by omega)).symm, ad, q_2R⟩

set_option maxHeartbeats 4000000 in
theorem c_stationOf1 {Γ : GG} {A : Nat → Prop} {K : KK} {l : Launch} (h : AL2) (hfl : l.stackTraces = false) (hke : KE Γ A K) (hfe : FE Γ) (hIOB : TH5 Γ A "java/lang/IndexOutOfBoundsException") (hIAE : TH5 Γ A "java/lang/IllegalArgumentException") (hISE : TH5 Γ A "java/lang/IllegalStateException") (o : Nat) (ad : AD) (σ : MM) (hR : Rel K h o ad σ) (hB : Bd σ) (p : Int) (hp : RR p) (hI : In σ) (hz : σ.1 14 ≠ 0) : Ct Γ A (Rep2 Γ A K) l yX1_stationOf (ws_ yX1_stationOf cX1_stationOf 3 (some .int)) 10 3 14 [.ref o, IV p] h (qI (fun (r : Int) (h' : AL2) => t1 (isP σ p) = 0 ∧ r = σ.2 20 p.toNat ∧ ∃ ad', Rel K h' o ad' (σ))) (fun (E : String) (h' : AL2) => xE ["java/lang/IndexOutOfBoundsException"] (t1 (isP σ p)) E ∧ ∃ ad', Rel K h' o ad' σ) := by
  refine Ct.ofJ (own := RX1) (nm := "stationOf") (lo := [some (.ref o), some (IV p), none]) pn_X1 rfl rfl (List.forall_mem_cons.mpr ⟨rfl, (List.forall_mem_cons.mpr ⟨rfl, (fun _ h => nomatch h)⟩)⟩) (Nat.le_of_ble_eq_true rfl) rfl ?_
  have hQ : ∀ (r : Int) (h' : AL2), (t1 (isP σ p) = 0 ∧ r = σ.2 20 p.toNat ∧ ∃ ad', Rel K h' o ad' (σ)) → (qI (fun (r : Int) (h' : AL2) => t1 (isP σ p) = 0 ∧ r = σ.2 20 p.toNat ∧ ∃ ad', Rel K h' o ad' (σ))) (some (IV r)) h' := fun r h' h => ⟨r, rfl, h⟩
  generalize (qI (fun (r : Int) (h' : AL2) => t1 (isP σ p) = 0 ∧ r = σ.2 20 p.toNat ∧ ∃ ad', Rel K h' o ad' (σ))) = QP at hQ ⊢
  have hX : ∀ (E : String) (h' : AL2), (xE ["java/lang/IndexOutOfBoundsException"] (t1 (isP σ p)) E ∧ ∃ ad', Rel K h' o ad' σ) → (fun (E : String) (h' : AL2) => xE ["java/lang/IndexOutOfBoundsException"] (t1 (isP σ p)) E ∧ ∃ ad', Rel K h' o ad' σ) E h' := fun E h' h => h
  generalize (fun (E : String) (h' : AL2) => xE ["java/lang/IndexOutOfBoundsException"] (t1 (isP σ p)) E ∧ ∃ ad', Rel K h' o ad' σ) = XP at hX ⊢
  have n9 : 0 ≤ σ.1 9 ∧ σ.1 9 ≤ 20 := hB.1 9
  refine j_aload_n (pc := 0) dX1_stationOf_0 rfl ?_
  refine j_iload_n (pc := 1) dX1_stationOf_1 rfl ?_
  refine j_room (cl' := 0 + 3) (sl' := 0 + 14) (by omega) (by omega) ?_
  refine j_callVx (pc := 2) (c_find h hfl hke hfe hIOB o ad σ hR hB p (by omega)) (lw_V q614 q616 qs12 q44 q617) rfl md_yX1_find (RC.of2 (show h (o) = some (pO 0 [.ref (ad 1 0 0), .ref (ad 2 0 0), .ref (ad 3 0 0), .ref (ad 4 0 0), .ref (ad 12 0 0), IV (σ.1 0), .ref (ad 5 0 0), .ref (ad 6 0 0)]) from hR.top1 hz) rfl) (nT _) (fun E x9 hx9 => by obtain ⟨rfl, hn9, hR9⟩ := hx9; exact hX _ _ ⟨xE_of 0 (by unfold t1; (repeat' split) <;> omega) rfl, ad, hR9⟩) (by decide) (by decide) rfl (Nat.le_of_ble_eq_true rfl) dX1_stationOf_2 (qR.k (fun r_2 s_2 q_2 => ?_))
  obtain ⟨q_2p, q_2e, q_2R⟩ := q_2
  subst r_2
  refine j_astore_n (pc := 5) dX1_stationOf_5 (by decide) (lo' := [some (.ref o), some (IV p), some (.ref (ad 7 (p).toNat 0))]) rfl ?_
  refine j_aload_n (pc := 6) dX1_stationOf_6 rfl ?_
  refine j2_get fa_X1_58_X1 (show s_2 (o) = some (pO 0 [.ref (ad 1 0 0), .ref (ad 2 0 0), .ref (ad 3 0 0), .ref (ad 4 0 0), .ref (ad 12 0 0), IV (σ.1 0), .ref (ad 5 0 0), .ref (ad 6 0 0)]) from q_2R.top1 hz) rfl dX1_stationOf_7 ?_
  refine j_ifnonnull (pc := 10) (tgt := 17) dX1_stationOf_10 (by decide) ?_
  refine j_aload_n (pc := 17) dX1_stationOf_17 rfl ?_
  refine j2_get fa_X1_58_X1 (show s_2 (o) = some (pO 0 [.ref (ad 1 0 0), .ref (ad 2 0 0), .ref (ad 3 0 0), .ref (ad 4 0 0), .ref (ad 12 0 0), IV (σ.1 0), .ref (ad 5 0 0), .ref (ad 6 0 0)]) from q_2R.top1 hz) rfl dX1_stationOf_18 ?_
  refine j2_get fa_X1_165_X9 (show s_2 (ad 12 0 0) = some (pO 7 [IV (σ.1 15), IV (σ.1 16), IV (σ.1 17), .ref (ad 13 0 0), .ref (ad 14 0 0), .ref (ad 15 0 0), .ref (ad 16 0 0), .ref (ad 17 0 0), .ref (ad 18 0 0), IV (σ.1 14)]) from q_2R.at 12 0 0 ⟨hz, rfl, rfl⟩) rfl dX1_stationOf_21 ?_
  refine j_aload_n (pc := 24) dX1_stationOf_24 rfl ?_
  refine j2_get fa_X1_178_X4 (show s_2 (ad 7 (p).toNat 0) = some (pO 4 [IV (((p).toNat : Nat) : Int), IV (σ.2 7 (p).toNat), .ref (ad 9 (p).toNat 0), IV (σ.2 8 (p).toNat)]) from q_2R.at 7 (p).toNat 0 ⟨(by omega), rfl⟩) rfl dX1_stationOf_25 ?_
  refine j2_iald (i := (((p).toNat : Nat) : Int)) (show s_2 (ad 14 0 0) = some (pA 0 20 (σ.2 20)) from q_2R.at 14 0 0 ⟨hz, rfl, rfl⟩) (by show 0 ≤ (((p).toNat : Nat) : Int) ∧ (((p).toNat : Nat) : Int) < ((20 : Nat) : Int); omega) dX1_stationOf_28 ?_
  have n_1 : (-1) ≤ σ.2 20 (((p).toNat : Nat) : Int).toNat ∧ σ.2 20 (((p).toNat : Nat) : Int).toNat ≤ 4 := hB.2 20 ((((p).toNat : Nat) : Int).toNat)
  refine j_iret (pc := 29) rfl (hQ _ _ ?_) dX1_stationOf_29
  exact ⟨by unfold t1; (repeat' split) <;> omega, rfl, ad, q_2R⟩

theorem c_stationOf {Γ : GG} {A : Nat → Prop} {K : KK} {l : Launch} (h : AL2) (hfl : l.stackTraces = false) (hke : KE Γ A K) (hfe : FE Γ) (hIOB : TH5 Γ A "java/lang/IndexOutOfBoundsException") (hIAE : TH5 Γ A "java/lang/IllegalArgumentException") (hISE : TH5 Γ A "java/lang/IllegalStateException") (o : Nat) (ad : AD) (σ : MM) (hR : Rel K h o ad σ) (hB : Bd σ) (p : Int) (hp : RR p) (hI : In σ) : Ct Γ A (Rep2 Γ A K) l yX1_stationOf (ws_ yX1_stationOf cX1_stationOf 3 (some .int)) 10 3 14 [.ref o, IV p] h (qI (fun (r : Int) (h' : AL2) => t1 (isP σ p) = 0 ∧ r = σ.2 20 p.toNat ∧ ∃ ad', Rel K h' o ad' (σ))) (fun (E : String) (h' : AL2) => xE ["java/lang/IndexOutOfBoundsException"] (t1 (isP σ p)) E ∧ ∃ ad', Rel K h' o ad' σ) := by
  by_cases hz : σ.1 14 = 0
  · exact c_stationOf0 h hfl hke hfe hIOB hIAE hISE o ad σ hR hB p hp hI hz
  · exact c_stationOf1 h hfl hke hfe hIOB hIAE hISE o ad σ hR hB p hp hI hz

set_option maxHeartbeats 4000000 in
theorem c_envelopes0 {Γ : GG} {A : Nat → Prop} {K : KK} {l : Launch} (h : AL2) (hfe : FE Γ) (o : Nat) (ad : AD) (σ : MM) (hR : Rel K h o ad σ) (hB : Bd σ) (hI : In σ) (hz : σ.1 14 = 0) : Ct Γ A (Rep2 Γ A K) l yX1_envelopes (ws_ yX1_envelopes cX1_envelopes 1 (some .int)) 2 0 0 [.ref o] h (qI (fun (r : Int) (h' : AL2) => r = σ.1 26 ∧ h' = h)) X0 := by
  refine Ct.ofJ (own := RX1) (nm := "envelopes") (lo := [some (.ref o)]) pn_X1 rfl rfl (List.forall_mem_cons.mpr ⟨rfl, (fun _ h => nomatch h)⟩) (Nat.le_of_ble_eq_true rfl) rfl ?_
  have hQ : ∀ (r : Int) (h' : AL2), (r = σ.1 26 ∧ h' = h) → (qI (fun (r : Int) (h' : AL2) => r = σ.1 26 ∧ h' = h)) (some (IV r)) h' := fun r h' h => ⟨r, rfl, h⟩
  generalize (qI (fun (r : Int) (h' : AL2) => r = σ.1 26 ∧ h' = h)) = QP at hQ ⊢
  have n26 : 0 ≤ σ.1 26 ∧ σ.1 26 ≤ 60 := hB.1 26
  refine j_aload_n (pc := 0) dX1_envelopes_0 rfl ?_
  refine j2_get fa_X1_58_X1 (show h (o) = some (pO 0 [.ref (ad 1 0 0), .ref (ad 2 0 0), .ref (ad 3 0 0), .ref (ad 4 0 0), .null, IV (σ.1 0), .ref (ad 5 0 0), .ref (ad 6 0 0)]) from hR.top0 hz) rfl dX1_envelopes_1 ?_
  refine j_ifnonnullN (pc := 4) dX1_envelopes_4 ?_
  refine j_iconst (pc := 7) dX1_envelopes_7 rfl ?_
  refine j_goto (pc := 8) (tgt := 23) dX1_envelopes_8 (by decide) ?_
  refine j_iret (pc := 23) rfl (hQ _ _ ?_) dX1_envelopes_23
  exact ⟨(hI.s1 (by omega)).2.1.symm, rfl⟩

theorem fa_X1_193_X9 : FA RX1 193 7 7 := ⟨RX9, TX9, 10, "BallotFoundry$Election", rfl, in_X9, by decide, q729, Or.inl rfl⟩
set_option maxHeartbeats 4000000 in
theorem c_envelopes1 {Γ : GG} {A : Nat → Prop} {K : KK} {l : Launch} (h : AL2) (hfe : FE Γ) (o : Nat) (ad : AD) (σ : MM) (hR : Rel K h o ad σ) (hB : Bd σ) (hI : In σ) (hz : σ.1 14 ≠ 0) : Ct Γ A (Rep2 Γ A K) l yX1_envelopes (ws_ yX1_envelopes cX1_envelopes 1 (some .int)) 2 0 0 [.ref o] h (qI (fun (r : Int) (h' : AL2) => r = σ.1 26 ∧ h' = h)) X0 := by
  refine Ct.ofJ (own := RX1) (nm := "envelopes") (lo := [some (.ref o)]) pn_X1 rfl rfl (List.forall_mem_cons.mpr ⟨rfl, (fun _ h => nomatch h)⟩) (Nat.le_of_ble_eq_true rfl) rfl ?_
  have hQ : ∀ (r : Int) (h' : AL2), (r = σ.1 26 ∧ h' = h) → (qI (fun (r : Int) (h' : AL2) => r = σ.1 26 ∧ h' = h)) (some (IV r)) h' := fun r h' h => ⟨r, rfl, h⟩
  generalize (qI (fun (r : Int) (h' : AL2) => r = σ.1 26 ∧ h' = h)) = QP at hQ ⊢
  have n26 : 0 ≤ σ.1 26 ∧ σ.1 26 ≤ 60 := hB.1 26
  refine j_aload_n (pc := 0) dX1_envelopes_0 rfl ?_
  refine j2_get fa_X1_58_X1 (show h (o) = some (pO 0 [.ref (ad 1 0 0), .ref (ad 2 0 0), .ref (ad 3 0 0), .ref (ad 4 0 0), .ref (ad 12 0 0), IV (σ.1 0), .ref (ad 5 0 0), .ref (ad 6 0 0)]) from hR.top1 hz) rfl dX1_envelopes_1 ?_
  refine j_ifnonnull (pc := 4) (tgt := 11) dX1_envelopes_4 (by decide) ?_
  refine j_aload_n (pc := 11) dX1_envelopes_11 rfl ?_
  refine j2_get fa_X1_58_X1 (show h (o) = some (pO 0 [.ref (ad 1 0 0), .ref (ad 2 0 0), .ref (ad 3 0 0), .ref (ad 4 0 0), .ref (ad 12 0 0), IV (σ.1 0), .ref (ad 5 0 0), .ref (ad 6 0 0)]) from hR.top1 hz) rfl dX1_envelopes_12 ?_
  refine j2_get fa_X1_193_X9 (show h (ad 12 0 0) = some (pO 7 [IV (σ.1 15), IV (σ.1 16), IV (σ.1 17), .ref (ad 13 0 0), .ref (ad 14 0 0), .ref (ad 15 0 0), .ref (ad 16 0 0), .ref (ad 17 0 0), .ref (ad 18 0 0), IV (σ.1 14)]) from hR.at 12 0 0 ⟨hz, rfl, rfl⟩) rfl dX1_envelopes_15 ?_
  refine j_callF (pc := 18) (xm := ⟨"java/util/List", "size", "()I"⟩) (l2_size (show h (ad 17 0 0) = some (pL (rg (σ.1 26) (fun q => ad 25 q 0))) from hR.at 17 0 0 ⟨hz, rfl, rfl⟩)) (lw_F q155 q159 q161 q47 q163) hfe.1 (ci := 2) rfl rfl mdx_yJ2_size (RC.ofL (show h (ad 17 0 0) = some (pL (rg (σ.1 26) (fun q => ad 25 q 0))) from hR.at 17 0 0 ⟨hz, rfl, rfl⟩)) (by decide) (by decide) rfl (Nat.le_of_ble_eq_true rfl) dX1_envelopes_18 (qI.k (fun r_18 s_18 q_18 => ?_))
  obtain ⟨e1q_18, e2q_18⟩ := q_18
  subst s_18
  rw [rg_len (by omega)] at e1q_18
  subst r_18
  refine j_iret (pc := 23) rfl (hQ _ _ ?_) dX1_envelopes_23
  exact ⟨rfl, rfl⟩

theorem c_envelopes {Γ : GG} {A : Nat → Prop} {K : KK} {l : Launch} (h : AL2) (hfe : FE Γ) (o : Nat) (ad : AD) (σ : MM) (hR : Rel K h o ad σ) (hB : Bd σ) (hI : In σ) : Ct Γ A (Rep2 Γ A K) l yX1_envelopes (ws_ yX1_envelopes cX1_envelopes 1 (some .int)) 2 0 0 [.ref o] h (qI (fun (r : Int) (h' : AL2) => r = σ.1 26 ∧ h' = h)) X0 := by
  by_cases hz : σ.1 14 = 0
  · exact c_envelopes0 h hfe o ad σ hR hB hI hz
  · exact c_envelopes1 h hfe o ad σ hR hB hI hz

set_option maxHeartbeats 4000000 in
theorem c_notes0 {Γ : GG} {A : Nat → Prop} {K : KK} {l : Launch} (h : AL2) (hfe : FE Γ) (o : Nat) (ad : AD) (σ : MM) (hR : Rel K h o ad σ) (hB : Bd σ) (h0 : σ.1 14 = 0 → σ.1 42 = 0) (hz : σ.1 14 = 0) : Ct Γ A (Rep2 Γ A K) l yX1_notes (ws_ yX1_notes cX1_notes 1 (some .int)) 2 0 0 [.ref o] h (qI (fun (r : Int) (h' : AL2) => r = σ.1 42 ∧ h' = h)) X0 := by
  refine Ct.ofJ (own := RX1) (nm := "notes") (lo := [some (.ref o)]) pn_X1 rfl rfl (List.forall_mem_cons.mpr ⟨rfl, (fun _ h => nomatch h)⟩) (Nat.le_of_ble_eq_true rfl) rfl ?_
  have hQ : ∀ (r : Int) (h' : AL2), (r = σ.1 42 ∧ h' = h) → (qI (fun (r : Int) (h' : AL2) => r = σ.1 42 ∧ h' = h)) (some (IV r)) h' := fun r h' h => ⟨r, rfl, h⟩
  generalize (qI (fun (r : Int) (h' : AL2) => r = σ.1 42 ∧ h' = h)) = QP at hQ ⊢
  have n42 : 0 ≤ σ.1 42 ∧ σ.1 42 ≤ 1000 := hB.1 42
  refine j_aload_n (pc := 0) dX1_notes_0 rfl ?_
  refine j2_get fa_X1_58_X1 (show h (o) = some (pO 0 [.ref (ad 1 0 0), .ref (ad 2 0 0), .ref (ad 3 0 0), .ref (ad 4 0 0), .null, IV (σ.1 0), .ref (ad 5 0 0), .ref (ad 6 0 0)]) from hR.top0 hz) rfl dX1_notes_1 ?_
  refine j_ifnonnullN (pc := 4) dX1_notes_4 ?_
  refine j_iconst (pc := 7) dX1_notes_7 rfl ?_
  refine j_goto (pc := 8) (tgt := 23) dX1_notes_8 (by decide) ?_
  refine j_iret (pc := 23) rfl (hQ _ _ ?_) dX1_notes_23
  exact ⟨(h0 hz).symm, rfl⟩

theorem fa_X1_295_X9 : FA RX1 295 7 8 := ⟨RX9, TX9, 10, "BallotFoundry$Election", rfl, in_X9, by decide, q731, Or.inl rfl⟩
set_option maxHeartbeats 4000000 in
theorem c_notes1 {Γ : GG} {A : Nat → Prop} {K : KK} {l : Launch} (h : AL2) (hfe : FE Γ) (o : Nat) (ad : AD) (σ : MM) (hR : Rel K h o ad σ) (hB : Bd σ) (h0 : σ.1 14 = 0 → σ.1 42 = 0) (hz : σ.1 14 ≠ 0) : Ct Γ A (Rep2 Γ A K) l yX1_notes (ws_ yX1_notes cX1_notes 1 (some .int)) 2 0 0 [.ref o] h (qI (fun (r : Int) (h' : AL2) => r = σ.1 42 ∧ h' = h)) X0 := by
  refine Ct.ofJ (own := RX1) (nm := "notes") (lo := [some (.ref o)]) pn_X1 rfl rfl (List.forall_mem_cons.mpr ⟨rfl, (fun _ h => nomatch h)⟩) (Nat.le_of_ble_eq_true rfl) rfl ?_
  have hQ : ∀ (r : Int) (h' : AL2), (r = σ.1 42 ∧ h' = h) → (qI (fun (r : Int) (h' : AL2) => r = σ.1 42 ∧ h' = h)) (some (IV r)) h' := fun r h' h => ⟨r, rfl, h⟩
  generalize (qI (fun (r : Int) (h' : AL2) => r = σ.1 42 ∧ h' = h)) = QP at hQ ⊢
  have n42 : 0 ≤ σ.1 42 ∧ σ.1 42 ≤ 1000 := hB.1 42
  refine j_aload_n (pc := 0) dX1_notes_0 rfl ?_
  refine j2_get fa_X1_58_X1 (show h (o) = some (pO 0 [.ref (ad 1 0 0), .ref (ad 2 0 0), .ref (ad 3 0 0), .ref (ad 4 0 0), .ref (ad 12 0 0), IV (σ.1 0), .ref (ad 5 0 0), .ref (ad 6 0 0)]) from hR.top1 hz) rfl dX1_notes_1 ?_
  refine j_ifnonnull (pc := 4) (tgt := 11) dX1_notes_4 (by decide) ?_
  refine j_aload_n (pc := 11) dX1_notes_11 rfl ?_
  refine j2_get fa_X1_58_X1 (show h (o) = some (pO 0 [.ref (ad 1 0 0), .ref (ad 2 0 0), .ref (ad 3 0 0), .ref (ad 4 0 0), .ref (ad 12 0 0), IV (σ.1 0), .ref (ad 5 0 0), .ref (ad 6 0 0)]) from hR.top1 hz) rfl dX1_notes_12 ?_
  refine j2_get fa_X1_295_X9 (show h (ad 12 0 0) = some (pO 7 [IV (σ.1 15), IV (σ.1 16), IV (σ.1 17), .ref (ad 13 0 0), .ref (ad 14 0 0), .ref (ad 15 0 0), .ref (ad 16 0 0), .ref (ad 17 0 0), .ref (ad 18 0 0), IV (σ.1 14)]) from hR.at 12 0 0 ⟨hz, rfl, rfl⟩) rfl dX1_notes_15 ?_
  refine j_callF (pc := 18) (xm := ⟨"java/util/List", "size", "()I"⟩) (l2_size (show h (ad 18 0 0) = some (pL (rg (σ.1 42) (fun q => ad 26 q 0))) from hR.at 18 0 0 ⟨hz, rfl, rfl⟩)) (lw_F q155 q159 q161 q47 q163) hfe.1 (ci := 2) rfl rfl mdx_yJ2_size (RC.ofL (show h (ad 18 0 0) = some (pL (rg (σ.1 42) (fun q => ad 26 q 0))) from hR.at 18 0 0 ⟨hz, rfl, rfl⟩)) (by decide) (by decide) rfl (Nat.le_of_ble_eq_true rfl) dX1_notes_18 (qI.k (fun r_18 s_18 q_18 => ?_))
  obtain ⟨e1q_18, e2q_18⟩ := q_18
  subst s_18
  rw [rg_len (by omega)] at e1q_18
  subst r_18
  refine j_iret (pc := 23) rfl (hQ _ _ ?_) dX1_notes_23
  exact ⟨rfl, rfl⟩

theorem c_notes {Γ : GG} {A : Nat → Prop} {K : KK} {l : Launch} (h : AL2) (hfe : FE Γ) (o : Nat) (ad : AD) (σ : MM) (hR : Rel K h o ad σ) (hB : Bd σ) (h0 : σ.1 14 = 0 → σ.1 42 = 0) : Ct Γ A (Rep2 Γ A K) l yX1_notes (ws_ yX1_notes cX1_notes 1 (some .int)) 2 0 0 [.ref o] h (qI (fun (r : Int) (h' : AL2) => r = σ.1 42 ∧ h' = h)) X0 := by
  by_cases hz : σ.1 14 = 0
  · exact c_notes0 h hfe o ad σ hR hB h0 hz
  · exact c_notes1 h hfe o ad σ hR hB h0 hz

