set_option maxRecDepth 100000
theorem fp_J2_9_J2 : FP RJ2 9 2 1 (.array (.object "java/lang/Object")) false := ⟨RJ2, TJ2, 3, "java/util/ArrayList", tyJ2, rfl, in_J2, by decide, q103, Or.inl rfl, tyJ2_ok, nmJ2, rfl, rfl, fun h => nomatch h⟩
set_option maxHeartbeats 4000000 in
theorem l1_grow0b {Γ : GG} {A : Nat → Prop} {l : Launch} (h : AH) {K : Nat → Nat} (hke : KE Γ A K)(a : Nat) (m : Int) (ha : h a = some (aO 2 [IV m, .ref (K 0), IV 0])) : Ct Γ A (Rep1 Γ A) l yJ2_grow_2 (ws_ yJ2_grow_2 cJ2_grow_2 4 (some (.array (.object "java/lang/Object")))) 2 1 10 [.ref a, IV 1] h (qR (fun (r : Nat) (h' : AH) => h r = none ∧ h' = upH (upH h r (aR a 10 (fun _ => none))) a (aO 2 [IV m, .ref r, IV 0]))) X0 := by
  refine Ct.ofJ (own := RJ2) (nm := "grow") (lo := [some (.ref a), some (IV 1), none, none]) pn_J2 rfl rfl (List.forall_mem_cons.mpr ⟨rfl, (List.forall_mem_cons.mpr ⟨rfl, (fun _ h => nomatch h)⟩)⟩) (Nat.le_of_ble_eq_true rfl) rfl ?_
  have hQ : ∀ (r : Nat) (h' : AH), (h r = none ∧ h' = upH (upH h r (aR a 10 (fun _ => none))) a (aO 2 [IV m, .ref r, IV 0])) → (qR (fun (r : Nat) (h' : AH) => h r = none ∧ h' = upH (upH h r (aR a 10 (fun _ => none))) a (aO 2 [IV m, .ref r, IV 0]))) (some (.ref r)) h' := fun r h' h => ⟨r, rfl, h⟩
  generalize (qR (fun (r : Nat) (h' : AH) => h r = none ∧ h' = upH (upH h r (aR a 10 (fun _ => none))) a (aO 2 [IV m, .ref r, IV 0]))) = QP at hQ ⊢
  refine j_aload_n (pc := 0) dJ2_grow_2_0 rfl ?_
  refine j1_get fa_J2_9_J2 ha rfl dJ2_grow_2_1 ?_
  refine j_alenE (pc := 4) hke.2.2.1 dJ2_grow_2_4 ?_
  refine j_istore_n (pc := 5) dJ2_grow_2_5 (by decide) (lo' := [some (.ref a), some (IV 1), some (IV ((0 : Nat) : Int)), none]) rfl ?_
  refine j_iload_n (pc := 6) dJ2_grow_2_6 rfl ?_
  refine j_if_gt (pc := 7) (tgt := 20) dJ2_grow_2_7 (by decide) (by omega) (fun c_7 => ?_) (fun c_7 => ?_)
  · exact absurd c_7 (by omega)
  · refine j_aload_n (pc := 10) dJ2_grow_2_10 rfl ?_
    refine j1_get fa_J2_9_J2 ha rfl dJ2_grow_2_11 ?_
    refine j_gets (pc := 14) hke.2.1 q101 (Or.inl rfl) dJ2_grow_2_14 ?_
    refine j_acmp_eq (pc := 17) (rx := (some (K 0))) (ry := (some (K 0))) (tgt := 45) dJ2_grow_2_17 (by decide) (fun c_17 => ?_) (fun c_17 => ?_)
    · refine j_aload_n (pc := 45) dJ2_grow_2_45 rfl ?_
      refine j_bipush (pc := 46) (a := 10) dJ2_grow_2_46 (by decide) ?_
      refine j_iload_n (pc := 48) dJ2_grow_2_48 rfl ?_
      refine j_callS (pc := 49) (k_max h 10 1 (by decide) (by decide)) (lw_S q541 q401 q55 q402) md_yJ9_max (by decide) (by decide) rfl (Nat.le_of_ble_eq_true rfl) dJ2_grow_2_49 (qI.k (fun r_49 s_49 q_49 => ?_))
      obtain ⟨e1q_49, e2q_49⟩ := q_49
      subst r_49
      subst s_49
      refine j_room (cl' := 0 + 1) (sl' := 0 + 10) (by omega) (by omega) ?_
      refine j1_anew (i := max 10 1) (N := 10) a hke.1 hke.2.2.2.1 q542 (by omega) (by omega) (by omega) dJ2_grow_2_52 (fun a_52 h_52 n_52 e_52 => ?_)
      have z_1 : h_52 a = some (aO 2 [IV m, .ref (K 0), IV 0]) := by rw [e_52]; exact upH_old ha n_52
      have z_2 : h_52 a_52 = some (aR a 10 (fun _ => none)) := by rw [e_52]; exact upH_self _ _ _
      refine j_dup_x1 (pc := 55) dJ2_grow_2_55 rfl rfl ?_
      refine j1_put fp_J2_9_J2 z_1 (Nat.le_of_ble_eq_true rfl) rfl rfl dJ2_grow_2_56 (fun h_56 e_56 => ?_)
      have z_3 : h_56 a_52 = some (aR a 10 (fun _ => none)) := by rw [e_56]; exact upH_k z_2 z_1 (by intro z; cases z)
      have z_4 : h_56 a = some (aO 2 [IV m, .ref a_52, IV 0]) := by rw [e_56]; exact upH_self _ _ _
      refine j_aret (pc := 59) rfl (by first | exact Or.inl ⟨_, rfl⟩ | exact Or.inr ⟨_, rfl⟩) (hQ _ _ ?_) dJ2_grow_2_59
      exact ⟨n_52, by rw [e_56, e_52]; rfl⟩
    · exact absurd rfl c_17

theorem md_yJ2_grow_2 : MD yJ2_grow_2 1 := by decide +kernel
set_option maxHeartbeats 4000000 in
theorem l1_grow0 {Γ : GG} {A : Nat → Prop} {l : Launch} (h : AH) {K : Nat → Nat} (hke : KE Γ A K)(a : Nat) (m : Int) (ha : h a = some (aO 2 [IV m, .ref (K 0), IV 0])) : Ct Γ A (Rep1 Γ A) l yJ2_grow (ws_ yJ2_grow cJ2_grow 1 (some (.array (.object "java/lang/Object")))) 3 1 10 [.ref a] h (qR (fun (r : Nat) (h' : AH) => h r = none ∧ h' = upH (upH h r (aR a 10 (fun _ => none))) a (aO 2 [IV m, .ref r, IV 0]))) X0 := by
  refine Ct.ofJ (own := RJ2) (nm := "grow") (lo := [some (.ref a)]) pn_J2 rfl rfl (List.forall_mem_cons.mpr ⟨rfl, (fun _ h => nomatch h)⟩) (Nat.le_of_ble_eq_true rfl) rfl ?_
  have hQ : ∀ (r : Nat) (h' : AH), (h r = none ∧ h' = upH (upH h r (aR a 10 (fun _ => none))) a (aO 2 [IV m, .ref r, IV 0])) → (qR (fun (r : Nat) (h' : AH) => h r = none ∧ h' = upH (upH h r (aR a 10 (fun _ => none))) a (aO 2 [IV m, .ref r, IV 0]))) (some (.ref r)) h' := fun r h' h => ⟨r, rfl, h⟩
  generalize (qR (fun (r : Nat) (h' : AH) => h r = none ∧ h' = upH (upH h r (aR a 10 (fun _ => none))) a (aO 2 [IV m, .ref r, IV 0]))) = QP at hQ ⊢
  refine j_aload_n (pc := 0) dJ2_grow_0 rfl ?_
  refine j_aload_n (pc := 1) dJ2_grow_1 rfl ?_
  refine j1_get fa_J2_48_J2 ha rfl dJ2_grow_2 ?_
  refine j_iconst (pc := 5) dJ2_grow_5 rfl ?_
  refine j_iadd (pc := 6) dJ2_grow_6 ?_
  refine j_room (cl' := 0 + 1) (sl' := 0 + 10) (by omega) (by omega) ?_
  refine j_callV (pc := 7) (l1_grow0b h hke a m ha) (lw_V q493 q495 qs11 q47 q496) rfl md_yJ2_grow_2 (RC.of1 ha rfl) (by decide) (by decide) rfl (Nat.le_of_ble_eq_true rfl) dJ2_grow_7 (qR.k (fun r_7 s_7 q_7 => ?_))
  refine j_aret (pc := 10) rfl (by first | exact Or.inl ⟨_, rfl⟩ | exact Or.inr ⟨_, rfl⟩) (hQ _ _ ?_) dJ2_grow_10
  exact q_7

theorem md_yJ12_newLength : MD yJ12_newLength 3 := by decide +kernel
theorem md_yJ13_copyOf : MD yJ13_copyOf 2 := by decide +kernel
set_option maxHeartbeats 4000000 in
theorem l1_growb {Γ : GG} {A : Nat → Prop} {l : Launch} (h : AH) {K : Nat → Nat} (hke : KE Γ A K)(a b : Nat) (m k : Int) (ha : h a = some (aO 2 [IV m, .ref b, IV k])) (n : Nat) (f : Nat → Option Nat) (hb : h b = some (aR a n f)) (hk : k = (n : Int)) (h1 : 1 ≤ n) (hn : n ≤ 100000) (M : Nat) (hM : n + max 1 (n / 2) ≤ M) (C : String) (hca : KO Γ C) (hel : ∀ j : Nat, j < n → ∀ y : Nat, f j = some y → EL Γ C h y) : Ct Γ A (Rep1 Γ A) l yJ2_grow_2 (ws_ yJ2_grow_2 cJ2_grow_2 4 (some (.array (.object "java/lang/Object")))) 4 1 M [.ref a, IV (k + 1)] h (qR (fun (r : Nat) (h' : AH) => h r = none ∧ h' = upH (upH h r (aR a (n + max 1 (n / 2)) (fun j => if j < n then f j else none))) a (aO 2 [IV m, .ref r, IV k]))) X0 := by
  refine Ct.ofJ (own := RJ2) (nm := "grow") (lo := [some (.ref a), some (IV (k + 1)), none, none]) pn_J2 rfl rfl (List.forall_mem_cons.mpr ⟨rfl, (List.forall_mem_cons.mpr ⟨rfl, (fun _ h => nomatch h)⟩)⟩) (Nat.le_of_ble_eq_true rfl) rfl ?_
  have hQ : ∀ (r : Nat) (h' : AH), (h r = none ∧ h' = upH (upH h r (aR a (n + max 1 (n / 2)) (fun j => if j < n then f j else none))) a (aO 2 [IV m, .ref r, IV k])) → (qR (fun (r : Nat) (h' : AH) => h r = none ∧ h' = upH (upH h r (aR a (n + max 1 (n / 2)) (fun j => if j < n then f j else none))) a (aO 2 [IV m, .ref r, IV k]))) (some (.ref r)) h' := fun r h' h => ⟨r, rfl, h⟩
  generalize (qR (fun (r : Nat) (h' : AH) => h r = none ∧ h' = upH (upH h r (aR a (n + max 1 (n / 2)) (fun j => if j < n then f j else none))) a (aO 2 [IV m, .ref r, IV k]))) = QP at hQ ⊢
  refine j_aload_n (pc := 0) dJ2_grow_2_0 rfl ?_
  refine j1_get fa_J2_9_J2 ha rfl dJ2_grow_2_1 ?_
  refine j1_alenR hb dJ2_grow_2_4 ?_
  refine j_istore_n (pc := 5) dJ2_grow_2_5 (by decide) (lo' := [some (.ref a), some (IV (k + 1)), some (IV ((n : Nat) : Int)), none]) rfl ?_
  refine j_iload_n (pc := 6) dJ2_grow_2_6 rfl ?_
  refine j_if_gt (pc := 7) (tgt := 20) dJ2_grow_2_7 (by decide) (by omega) (fun c_7 => ?_) (fun c_7 => ?_)
  · refine j_iload_n (pc := 20) dJ2_grow_2_20 rfl ?_
    refine j_iload_n (pc := 21) dJ2_grow_2_21 rfl ?_
    refine j_iload_n (pc := 22) dJ2_grow_2_22 rfl ?_
    refine j_isub (pc := 23) dJ2_grow_2_23 ?_
    refine j_iload_n (pc := 24) dJ2_grow_2_24 rfl ?_
    refine j_iconst (pc := 25) dJ2_grow_2_25 rfl ?_
    refine j_ishr (pc := 26) (r := ((n / 2 : Nat) : Int)) dJ2_grow_2_26 (shr1 n (by omega)) ?_
    refine j_callS (pc := 27) (k_newLength h ((n : Nat) : Int) ((k + 1) - ((n : Nat) : Int)) ((n / 2 : Nat) : Int) (by omega) (by omega) (by omega)) (lw_S q497 q498 q59 q499) md_yJ12_newLength (by decide) (by decide) rfl (Nat.le_of_ble_eq_true rfl) dJ2_grow_2_27 (qI.k (fun r_27 s_27 q_27 => ?_))
    obtain ⟨e1q_27, e2q_27⟩ := q_27
    subst r_27
    subst s_27
    refine j_eqI (((n + max 1 (n / 2)) : Nat) : Int) (by omega) ?_
    refine j_istore_n (pc := 30) dJ2_grow_2_30 (by decide) (lo' := [some (.ref a), some (IV (k + 1)), some (IV ((n : Nat) : Int)), some (IV (((n + max 1 (n / 2)) : Nat) : Int))]) rfl ?_
    refine j_aload_n (pc := 31) dJ2_grow_2_31 rfl ?_
    refine j_aload_n (pc := 32) dJ2_grow_2_32 rfl ?_
    refine j1_get fa_J2_9_J2 ha rfl dJ2_grow_2_33 ?_
    refine j_iload_n (pc := 36) dJ2_grow_2_36 rfl ?_
    refine j_room (cl' := 0 + 1) (sl' := (M - (n + max 1 (n / 2))) + (n + max 1 (n / 2))) (by omega) (by omega) ?_
    refine j_callS (pc := 37) (l1_copyOf h hke n f a b hb C hca hel a (n + max 1 (n / 2)) (by omega) (by omega)) (lw_S q505 q506 q60 q507) md_yJ13_copyOf (by decide) (by decide) rfl (Nat.le_of_ble_eq_true rfl) dJ2_grow_2_37 (qR.k (fun r_37 s_37 q_37 => ?_))
    obtain ⟨qn, qe⟩ := q_37
    have za : s_37 a = some (aO 2 [IV m, .ref b, IV k]) := by rw [qe]; exact upH_old ha qn
    refine j_dup_x1 (pc := 40) dJ2_grow_2_40 rfl rfl ?_
    refine j1_put fp_J2_9_J2 za (Nat.le_of_ble_eq_true rfl) rfl rfl dJ2_grow_2_41 (fun h_41 e_41 => ?_)
    have z_1 : h_41 a = some (aO 2 [IV m, .ref r_37, IV k]) := by rw [e_41]; exact upH_self _ _ _
    refine j_aret (pc := 44) rfl (by first | exact Or.inl ⟨_, rfl⟩ | exact Or.inr ⟨_, rfl⟩) (hQ _ _ ?_) dJ2_grow_2_44
    exact ⟨qn, by rw [e_41, qe]; rfl⟩
  · exact absurd c_7 (by omega)

set_option maxHeartbeats 4000000 in
theorem l1_grow {Γ : GG} {A : Nat → Prop} {l : Launch} (h : AH) {K : Nat → Nat} (hke : KE Γ A K)(a b : Nat) (m k : Int) (ha : h a = some (aO 2 [IV m, .ref b, IV k])) (n : Nat) (f : Nat → Option Nat) (hb : h b = some (aR a n f)) (hk : k = (n : Int)) (h1 : 1 ≤ n) (hn : n ≤ 100000) (M : Nat) (hM : n + max 1 (n / 2) ≤ M) (C : String) (hca : KO Γ C) (hel : ∀ j : Nat, j < n → ∀ y : Nat, f j = some y → EL Γ C h y) : Ct Γ A (Rep1 Γ A) l yJ2_grow (ws_ yJ2_grow cJ2_grow 1 (some (.array (.object "java/lang/Object")))) 5 1 M [.ref a] h (qR (fun (r : Nat) (h' : AH) => h r = none ∧ h' = upH (upH h r (aR a (n + max 1 (n / 2)) (fun j => if j < n then f j else none))) a (aO 2 [IV m, .ref r, IV k]))) X0 := by
  refine Ct.ofJ (own := RJ2) (nm := "grow") (lo := [some (.ref a)]) pn_J2 rfl rfl (List.forall_mem_cons.mpr ⟨rfl, (fun _ h => nomatch h)⟩) (Nat.le_of_ble_eq_true rfl) rfl ?_
  have hQ : ∀ (r : Nat) (h' : AH), (h r = none ∧ h' = upH (upH h r (aR a (n + max 1 (n / 2)) (fun j => if j < n then f j else none))) a (aO 2 [IV m, .ref r, IV k])) → (qR (fun (r : Nat) (h' : AH) => h r = none ∧ h' = upH (upH h r (aR a (n + max 1 (n / 2)) (fun j => if j < n then f j else none))) a (aO 2 [IV m, .ref r, IV k]))) (some (.ref r)) h' := fun r h' h => ⟨r, rfl, h⟩
  generalize (qR (fun (r : Nat) (h' : AH) => h r = none ∧ h' = upH (upH h r (aR a (n + max 1 (n / 2)) (fun j => if j < n then f j else none))) a (aO 2 [IV m, .ref r, IV k]))) = QP at hQ ⊢
  refine j_aload_n (pc := 0) dJ2_grow_0 rfl ?_
  refine j_aload_n (pc := 1) dJ2_grow_1 rfl ?_
  refine j1_get fa_J2_48_J2 ha rfl dJ2_grow_2 ?_
  refine j_iconst (pc := 5) dJ2_grow_5 rfl ?_
  refine j_iadd (pc := 6) dJ2_grow_6 ?_
  refine j_room (cl' := 0 + 1) (sl' := 0 + M) (by omega) (by omega) ?_
  refine j_callV (pc := 7) (l1_growb h hke a b m k ha n f hb hk h1 hn M hM C hca hel) (lw_V q493 q495 qs11 q47 q496) rfl md_yJ2_grow_2 (RC.of1 ha rfl) (by decide) (by decide) rfl (Nat.le_of_ble_eq_true rfl) dJ2_grow_7 (qR.k (fun r_7 s_7 q_7 => ?_))
  refine j_aret (pc := 10) rfl (by first | exact Or.inl ⟨_, rfl⟩ | exact Or.inr ⟨_, rfl⟩) (hQ _ _ ?_) dJ2_grow_10
  exact q_7

theorem fp_J2_48_J2 : FP RJ2 48 2 2 (.int) false := ⟨RJ2, TJ2, 3, "java/util/ArrayList", tyJ2, rfl, in_J2, by decide, q104, Or.inl rfl, tyJ2_ok, nmJ2, rfl, rfl, fun h => nomatch h⟩
set_option maxHeartbeats 4000000 in
theorem l1_add2R {Γ : GG} {A : Nat → Prop} {l : Launch} (h : AH) (a b : Nat) (m k : Int) (ha : h a = some (aO 2 [IV m, .ref b, IV k])) (n : Nat) (f : Nat → Option Nat) (hb : h b = some (aR a n f)) (hk : 0 ≤ k ∧ k < (n : Int)) (hn : n < 2147483648) (y : Nat) (C : String) (hca : KO Γ C) (hy : EL Γ C h y) : Ct Γ A (Rep1 Γ A) l yJ2_add_2 (ws_ yJ2_add_2 cJ2_add_2 4 none) 2 0 0 [.ref a, .ref y, .ref b, IV k] h (qV (fun (h' : AH) => h' = upH (upH h b (aR a n (va_up f k.toNat (some y)))) a (aO 2 [IV m, .ref b, IV (k + 1)]))) X0 := by
  refine Ct.ofJ (own := RJ2) (nm := "add") (lo := [some (.ref a), some (.ref y), some (.ref b), some (IV k)]) pn_J2 rfl rfl (List.forall_mem_cons.mpr ⟨rfl, (List.forall_mem_cons.mpr ⟨rfl, (List.forall_mem_cons.mpr ⟨rfl, (List.forall_mem_cons.mpr ⟨rfl, (fun _ h => nomatch h)⟩)⟩)⟩)⟩) (Nat.le_of_ble_eq_true rfl) rfl ?_
  have hQ : ∀ (h' : AH), (h' = upH (upH h b (aR a n (va_up f k.toNat (some y)))) a (aO 2 [IV m, .ref b, IV (k + 1)])) → (qV (fun (h' : AH) => h' = upH (upH h b (aR a n (va_up f k.toNat (some y)))) a (aO 2 [IV m, .ref b, IV (k + 1)]))) none h' := fun h' h => ⟨rfl, h⟩
  generalize (qV (fun (h' : AH) => h' = upH (upH h b (aR a n (va_up f k.toNat (some y)))) a (aO 2 [IV m, .ref b, IV (k + 1)]))) = QP at hQ ⊢
  refine j_iload_n (pc := 0) dJ2_add_2_0 rfl ?_
  refine j_aload_n (pc := 1) dJ2_add_2_1 rfl ?_
  refine j1_alenR hb dJ2_add_2_2 ?_
  refine j_icmp_ne (pc := 3) (tgt := 11) dJ2_add_2_3 (by decide) (by omega) (by omega) (fun c_3 => ?_) (fun c_3 => ?_)
  · refine j_aload_n (pc := 11) dJ2_add_2_11 rfl ?_
    refine j_iload_n (pc := 12) dJ2_add_2_12 rfl ?_
    refine j_aload_n (pc := 13) dJ2_add_2_13 rfl ?_
    refine j1_aast (i := k) hb (EL.rc hy) hca (by show 0 ≤ k ∧ k < ((n : Nat) : Int); omega) dJ2_add_2_14 (fun h_14 e_14 => ?_)
    have z_1 : h_14 a = some (aO 2 [IV m, .ref b, IV k]) := by rw [e_14]; exact upH_k ha hb (by intro z; cases z)
    have z_2 : h_14 b = some (aR a n (va_up f (k).toNat (some y))) := by rw [e_14]; exact upH_self _ _ _
    refine j_aload_n (pc := 15) dJ2_add_2_15 rfl ?_
    refine j_iload_n (pc := 16) dJ2_add_2_16 rfl ?_
    refine j_iconst (pc := 17) dJ2_add_2_17 rfl ?_
    refine j_iadd (pc := 18) dJ2_add_2_18 ?_
    refine j1_put fp_J2_48_J2 z_1 (Nat.le_of_ble_eq_true rfl) rfl rfl dJ2_add_2_19 (fun h_19 e_19 => ?_)
    have z_3 : h_19 b = some (aR a n (va_up f (k).toNat (some y))) := by rw [e_19]; exact upH_k z_2 z_1 (by intro z; cases z)
    have z_4 : h_19 a = some (aO 2 [IV m, .ref b, IV (k + 1)]) := by rw [e_19]; exact upH_self _ _ _
    refine j_vret (pc := 22) rfl (hQ _ ?_) dJ2_add_2_22
    rw [e_19, e_14]; rfl
  · exact absurd c_3 (by omega)

theorem md_yJ2_grow : MD yJ2_grow 0 := by decide +kernel
set_option maxHeartbeats 4000000 in
theorem l1_add2E {Γ : GG} {A : Nat → Prop} {l : Launch} (h : AH) {K : Nat → Nat} (hke : KE Γ A K)(a : Nat) (m : Int) (ha : h a = some (aO 2 [IV m, .ref (K 0), IV 0])) (y : Nat) (C : String) (hca : KO Γ C) (hy : EL Γ C h y) : Ct Γ A (Rep1 Γ A) l yJ2_add_2 (ws_ yJ2_add_2 cJ2_add_2 4 none) 4 1 10 [.ref a, .ref y, .ref (K 0), IV 0] h (qV (fun (h' : AH) => ∃ q : Nat, h q = none ∧ h' = upH (upH h q (aR a 10 (va_up (fun _ => none) 0 (some y)))) a (aO 2 [IV m, .ref q, IV 1]))) X0 := by
  refine Ct.ofJ (own := RJ2) (nm := "add") (lo := [some (.ref a), some (.ref y), some (.ref (K 0)), some (IV 0)]) pn_J2 rfl rfl (List.forall_mem_cons.mpr ⟨rfl, (List.forall_mem_cons.mpr ⟨rfl, (List.forall_mem_cons.mpr ⟨rfl, (List.forall_mem_cons.mpr ⟨rfl, (fun _ h => nomatch h)⟩)⟩)⟩)⟩) (Nat.le_of_ble_eq_true rfl) rfl ?_
  have hQ : ∀ (h' : AH), (∃ q : Nat, h q = none ∧ h' = upH (upH h q (aR a 10 (va_up (fun _ => none) 0 (some y)))) a (aO 2 [IV m, .ref q, IV 1])) → (qV (fun (h' : AH) => ∃ q : Nat, h q = none ∧ h' = upH (upH h q (aR a 10 (va_up (fun _ => none) 0 (some y)))) a (aO 2 [IV m, .ref q, IV 1]))) none h' := fun h' h => ⟨rfl, h⟩
  generalize (qV (fun (h' : AH) => ∃ q : Nat, h q = none ∧ h' = upH (upH h q (aR a 10 (va_up (fun _ => none) 0 (some y)))) a (aO 2 [IV m, .ref q, IV 1]))) = QP at hQ ⊢
  refine j_iload_n (pc := 0) dJ2_add_2_0 rfl ?_
  refine j_aload_n (pc := 1) dJ2_add_2_1 rfl ?_
  refine j_alenE (pc := 2) hke.2.2.1 dJ2_add_2_2 ?_
  refine j_icmp_ne (pc := 3) (tgt := 11) dJ2_add_2_3 (by decide) (by decide) (by omega) (fun c_3 => ?_) (fun c_3 => ?_)
  · exact absurd rfl c_3
  · refine j_aload_n (pc := 6) dJ2_add_2_6 rfl ?_
    refine j_room (cl' := 0 + 1) (sl' := 0 + 10) (by omega) (by omega) ?_
    refine j_callV (pc := 7) (l1_grow0 h hke a m ha) (lw_V q489 q491 qs10 q47 q492) rfl md_yJ2_grow (RC.of1 ha rfl) (by decide) (by decide) rfl (Nat.le_of_ble_eq_true rfl) dJ2_add_2_7 (qR.k (fun r_7 s_7 q_7 => ?_))
    obtain ⟨qn, qe⟩ := q_7
    have nq : r_7 ≠ a := fun e => by rw [e, ha] at qn; cases qn
    have zq : s_7 r_7 = some (aR a 10 (fun _ => none)) := by rw [qe]; exact upH_d (upH_self _ _ _) nq
    have za : s_7 a = some (aO 2 [IV m, .ref r_7, IV 0]) := by rw [qe]; exact upH_self _ _ _
    refine j_astore_n (pc := 10) dJ2_add_2_10 (by decide) (lo' := [some (.ref a), some (.ref y), some (.ref r_7), some (IV 0)]) rfl ?_
    have za0 : (upH h r_7 (aR a 10 (fun _ => none))) a = some (aO 2 [IV m, .ref (K 0), IV 0]) := upH_old ha qn
    refine j_aload_n (pc := 11) dJ2_add_2_11 rfl ?_
    refine j_iload_n (pc := 12) dJ2_add_2_12 rfl ?_
    refine j_aload_n (pc := 13) dJ2_add_2_13 rfl ?_
    refine j1_aast (i := 0) zq (EL.rc (by rw [qe]; exact (hy.upd (fun ci fs hc z => by rw [qn] at z; cases z)).upd (fun ci fs hc z => by rw [za0] at z; cases z; exact hc rfl))) hca (by show 0 ≤ 0 ∧ 0 < ((10 : Nat) : Int); omega) dJ2_add_2_14 (fun h_14 e_14 => ?_)
    have z_1 : h_14 a = some (aO 2 [IV m, .ref r_7, IV 0]) := by rw [e_14]; exact upH_d za (Ne.symm nq)
    have z_2 : h_14 r_7 = some (aR a 10 (va_up (fun _ => none) 0 (some y))) := by rw [e_14]; exact upH_self _ _ _
    refine j_aload_n (pc := 15) dJ2_add_2_15 rfl ?_
    refine j_iload_n (pc := 16) dJ2_add_2_16 rfl ?_
    refine j_iconst (pc := 17) dJ2_add_2_17 rfl ?_
    refine j_iadd (pc := 18) dJ2_add_2_18 ?_
    refine j1_put fp_J2_48_J2 z_1 (Nat.le_of_ble_eq_true rfl) rfl rfl dJ2_add_2_19 (fun h_19 e_19 => ?_)
    have z_3 : h_19 r_7 = some (aR a 10 (va_up (fun _ => none) 0 (some y))) := by rw [e_19]; exact upH_d z_2 nq
    have z_4 : h_19 a = some (aO 2 [IV m, .ref r_7, IV (0 + 1)]) := by rw [e_19]; exact upH_self _ _ _
    refine j_vret (pc := 22) rfl (hQ _ ?_) dJ2_add_2_22
    exact ⟨r_7, qn, by rw [e_19, e_14, qe]; exact upH4 _ _ _ _ _ nq⟩

set_option maxHeartbeats 4000000 in
theorem l1_add2F {Γ : GG} {A : Nat → Prop} {l : Launch} (h : AH) {K : Nat → Nat} (hke : KE Γ A K)(a b : Nat) (m k : Int) (ha : h a = some (aO 2 [IV m, .ref b, IV k])) (n : Nat) (f : Nat → Option Nat) (hb : h b = some (aR a n f)) (hk : k = (n : Int)) (h1 : 1 ≤ n) (hn : n ≤ 100000) (M : Nat) (hM : n + max 1 (n / 2) ≤ M) (y : Nat) (C : String) (hca : KO Γ C) (hy : EL Γ C h y) (hel : ∀ j : Nat, j < n → ∀ y : Nat, f j = some y → EL Γ C h y) : Ct Γ A (Rep1 Γ A) l yJ2_add_2 (ws_ yJ2_add_2 cJ2_add_2 4 none) 6 1 M [.ref a, .ref y, .ref b, IV k] h (qV (fun (h' : AH) => ∃ q : Nat, h q = none ∧ h' = upH (upH h q (aR a (n + max 1 (n / 2)) (va_up (fun j => if j < n then f j else none) n (some y)))) a (aO 2 [IV m, .ref q, IV (k + 1)]))) X0 := by
  refine Ct.ofJ (own := RJ2) (nm := "add") (lo := [some (.ref a), some (.ref y), some (.ref b), some (IV k)]) pn_J2 rfl rfl (List.forall_mem_cons.mpr ⟨rfl, (List.forall_mem_cons.mpr ⟨rfl, (List.forall_mem_cons.mpr ⟨rfl, (List.forall_mem_cons.mpr ⟨rfl, (fun _ h => nomatch h)⟩)⟩)⟩)⟩) (Nat.le_of_ble_eq_true rfl) rfl ?_
  have hQ : ∀ (h' : AH), (∃ q : Nat, h q = none ∧ h' = upH (upH h q (aR a (n + max 1 (n / 2)) (va_up (fun j => if j < n then f j else none) n (some y)))) a (aO 2 [IV m, .ref q, IV (k + 1)])) → (qV (fun (h' : AH) => ∃ q : Nat, h q = none ∧ h' = upH (upH h q (aR a (n + max 1 (n / 2)) (va_up (fun j => if j < n then f j else none) n (some y)))) a (aO 2 [IV m, .ref q, IV (k + 1)]))) none h' := fun h' h => ⟨rfl, h⟩
  generalize (qV (fun (h' : AH) => ∃ q : Nat, h q = none ∧ h' = upH (upH h q (aR a (n + max 1 (n / 2)) (va_up (fun j => if j < n then f j else none) n (some y)))) a (aO 2 [IV m, .ref q, IV (k + 1)]))) = QP at hQ ⊢
  refine j_iload_n (pc := 0) dJ2_add_2_0 rfl ?_
  refine j_aload_n (pc := 1) dJ2_add_2_1 rfl ?_
  refine j1_alenR hb dJ2_add_2_2 ?_
  refine j_icmp_ne (pc := 3) (tgt := 11) dJ2_add_2_3 (by decide) (by omega) (by omega) (fun c_3 => ?_) (fun c_3 => ?_)
  · exact absurd (by omega) c_3
  · refine j_aload_n (pc := 6) dJ2_add_2_6 rfl ?_
    refine j_room (cl' := 0 + 1) (sl' := (M - (n + max 1 (n / 2))) + (n + max 1 (n / 2))) (by omega) (by omega) ?_
    refine j_callV (pc := 7) (l1_grow h hke a b m k ha n f hb hk h1 hn (n + max 1 (n / 2)) (Nat.le_refl _) C hca hel) (lw_V q489 q491 qs10 q47 q492) rfl md_yJ2_grow (RC.of1 ha rfl) (by decide) (by decide) rfl (Nat.le_of_ble_eq_true rfl) dJ2_add_2_7 (qR.k (fun r_7 s_7 q_7 => ?_))
    obtain ⟨qn, qe⟩ := q_7
    have nq : r_7 ≠ a := fun e => by rw [e, ha] at qn; cases qn
    have zq : s_7 r_7 = some (aR a (n + max 1 (n / 2)) (fun j => if j < n then f j else none)) := by rw [qe]; exact upH_d (upH_self _ _ _) nq
    have za : s_7 a = some (aO 2 [IV m, .ref r_7, IV k]) := by rw [qe]; exact upH_self _ _ _
    refine j_astore_n (pc := 10) dJ2_add_2_10 (by decide) (lo' := [some (.ref a), some (.ref y), some (.ref r_7), some (IV k)]) rfl ?_
    have za0 : (upH h r_7 (aR a (n + max 1 (n / 2)) (fun j => if j < n then f j else none))) a = some (aO 2 [IV m, .ref b, IV k]) := upH_old ha qn
    refine j_aload_n (pc := 11) dJ2_add_2_11 rfl ?_
    refine j_iload_n (pc := 12) dJ2_add_2_12 rfl ?_
    refine j_aload_n (pc := 13) dJ2_add_2_13 rfl ?_
    refine j1_aast (i := k) zq (EL.rc (by rw [qe]; exact (hy.upd (fun ci fs hc z => by rw [qn] at z; cases z)).upd (fun ci fs hc z => by rw [za0] at z; cases z; exact hc rfl))) hca (by show 0 ≤ k ∧ k < (((n + max 1 (n / 2)) : Nat) : Int); omega) dJ2_add_2_14 (fun h_14 e_14 => ?_)
    have z_1 : h_14 a = some (aO 2 [IV m, .ref r_7, IV k]) := by rw [e_14]; exact upH_d za (Ne.symm nq)
    have z_2 : h_14 r_7 = some (aR a (n + max 1 (n / 2)) (va_up (fun j => if j < n then f j else none) (k).toNat (some y))) := by rw [e_14]; exact upH_self _ _ _
    refine j_aload_n (pc := 15) dJ2_add_2_15 rfl ?_
    refine j_iload_n (pc := 16) dJ2_add_2_16 rfl ?_
    refine j_iconst (pc := 17) dJ2_add_2_17 rfl ?_
    refine j_iadd (pc := 18) dJ2_add_2_18 ?_
    refine j1_put fp_J2_48_J2 z_1 (Nat.le_of_ble_eq_true rfl) rfl rfl dJ2_add_2_19 (fun h_19 e_19 => ?_)
    have z_3 : h_19 r_7 = some (aR a (n + max 1 (n / 2)) (va_up (fun j => if j < n then f j else none) (k).toNat (some y))) := by rw [e_19]; exact upH_d z_2 nq
    have z_4 : h_19 a = some (aO 2 [IV m, .ref r_7, IV (k + 1)]) := by rw [e_19]; exact upH_self _ _ _
    refine j_vret (pc := 22) rfl (hQ _ ?_) dJ2_add_2_22
    have ek : k.toNat = n := by omega
    rw [ek] at e_14
    exact ⟨r_7, qn, by rw [e_19, e_14, qe]; exact upH4 _ _ _ _ _ nq⟩

theorem fa_J2_63_J2 : FA RJ2 63 2 0 := ⟨RJ2, TJ2, 3, "java/util/ArrayList", rfl, in_J2, by decide, q106, Or.inr q107⟩
theorem fp_J2_63_J2 : FP RJ2 63 2 0 (.int) false := ⟨RJ2, TJ2, 3, "java/util/ArrayList", tyJ2, rfl, in_J2, by decide, q106, Or.inr q107, tyJ2_ok, nmJ2, rfl, rfl, fun h => nomatch h⟩
theorem md_yJ2_add_2 : MD yJ2_add_2 3 := by decide +kernel
set_option maxHeartbeats 4000000 in
theorem l1_addR {Γ : GG} {A : Nat → Prop} {l : Launch} (h : AH) (a b : Nat) (m k : Int) (ha : h a = some (aO 2 [IV m, .ref b, IV k])) (n : Nat) (f : Nat → Option Nat) (hb : h b = some (aR a n f)) (hk : 0 ≤ k ∧ k < (n : Int)) (hn : n < 2147483648) (y : Nat) (C : String) (hca : KO Γ C) (hy : EL Γ C h y) (M : Nat) : Ct Γ A (Rep1 Γ A) l yJ2_add (ws_ yJ2_add cJ2_add 2 (some .boolean)) 7 1 M [.ref a, .ref y] h (qI (fun (r : Int) (h' : AH) => r = 1 ∧ h' = upH (upH h b (aR a n (va_up f k.toNat (some y)))) a (aO 2 [IV (m + 1), .ref b, IV (k + 1)]))) X0 := by
  refine Ct.ofJ (own := RJ2) (nm := "add") (lo := [some (.ref a), some (.ref y)]) pn_J2 rfl rfl (List.forall_mem_cons.mpr ⟨rfl, (List.forall_mem_cons.mpr ⟨rfl, (fun _ h => nomatch h)⟩)⟩) (Nat.le_of_ble_eq_true rfl) rfl ?_
  have hQ : ∀ (r : Int) (h' : AH), (r = 1 ∧ h' = upH (upH h b (aR a n (va_up f k.toNat (some y)))) a (aO 2 [IV (m + 1), .ref b, IV (k + 1)])) → (qI (fun (r : Int) (h' : AH) => r = 1 ∧ h' = upH (upH h b (aR a n (va_up f k.toNat (some y)))) a (aO 2 [IV (m + 1), .ref b, IV (k + 1)]))) (some (IV r)) h' := fun r h' h => ⟨r, rfl, h⟩
  generalize (qI (fun (r : Int) (h' : AH) => r = 1 ∧ h' = upH (upH h b (aR a n (va_up f k.toNat (some y)))) a (aO 2 [IV (m + 1), .ref b, IV (k + 1)]))) = QP at hQ ⊢
  refine j_aload_n (pc := 0) dJ2_add_0 rfl ?_
  refine j_dup (pc := 1) dJ2_add_1 rfl ?_
  refine j1_get fa_J2_63_J2 ha rfl dJ2_add_2 ?_
  refine j_iconst (pc := 5) dJ2_add_5 rfl ?_
  refine j_iadd (pc := 6) dJ2_add_6 ?_
  refine j1_put fp_J2_63_J2 ha (Nat.le_of_ble_eq_true rfl) rfl rfl dJ2_add_7 (fun h_7 e_7 => ?_)
  have z_1 : h_7 b = some (aR a n f) := by rw [e_7]; exact upH_k hb ha (by intro z; cases z)
  have z_2 : h_7 a = some (aO 2 [IV (m + 1), .ref b, IV k]) := by rw [e_7]; exact upH_self _ _ _
  have hy7 : EL Γ C h_7 y := by rw [e_7]; exact hy.upd (fun ci fs hc z => by rw [ha] at z; cases z; exact hc rfl)
  refine j_aload_n (pc := 10) dJ2_add_10 rfl ?_
  refine j_aload_n (pc := 11) dJ2_add_11 rfl ?_
  refine j_aload_n (pc := 12) dJ2_add_12 rfl ?_
  refine j1_get fa_J2_9_J2 z_2 rfl dJ2_add_13 ?_
  refine j_aload_n (pc := 16) dJ2_add_16 rfl ?_
  refine j1_get fa_J2_48_J2 z_2 rfl dJ2_add_17 ?_
  refine j_callV (pc := 20) (l1_add2R h_7 a b (m + 1) k z_2 n f z_1 hk hn y C hca hy7) (lw_V q485 q487 qs9 q47 q488) rfl md_yJ2_add_2 (RC.of1 z_2 rfl) (by decide) (by decide) rfl (Nat.le_of_ble_eq_true rfl) dJ2_add_20 (qV.k (fun s_20 q_20 => ?_))
  refine j_iconst (pc := 23) dJ2_add_23 rfl ?_
  refine j_zret (pc := 24) rfl (Or.inr rfl) (hQ _ _ ?_) dJ2_add_24
  have nb : b ≠ a := fun e => by rw [e, ha] at hb; cases hb
  exact ⟨rfl, by rw [q_20, e_7]; exact upH3 _ _ _ _ nb⟩

set_option maxHeartbeats 4000000 in
theorem l1_addE {Γ : GG} {A : Nat → Prop} {l : Launch} (h : AH) {K : Nat → Nat} (hke : KE Γ A K)(a : Nat) (m : Int) (ha : h a = some (aO 2 [IV m, .ref (K 0), IV 0])) (y : Nat) (C : String) (hca : KO Γ C) (hy : EL Γ C h y) (M : Nat) (hM : 10 ≤ M) : Ct Γ A (Rep1 Γ A) l yJ2_add (ws_ yJ2_add cJ2_add 2 (some .boolean)) 7 1 M [.ref a, .ref y] h (qI (fun (r : Int) (h' : AH) => r = 1 ∧ ∃ q : Nat, h q = none ∧ h' = upH (upH h q (aR a 10 (va_up (fun _ => none) 0 (some y)))) a (aO 2 [IV (m + 1), .ref q, IV 1]))) X0 := by
  refine Ct.ofJ (own := RJ2) (nm := "add") (lo := [some (.ref a), some (.ref y)]) pn_J2 rfl rfl (List.forall_mem_cons.mpr ⟨rfl, (List.forall_mem_cons.mpr ⟨rfl, (fun _ h => nomatch h)⟩)⟩) (Nat.le_of_ble_eq_true rfl) rfl ?_
  have hQ : ∀ (r : Int) (h' : AH), (r = 1 ∧ ∃ q : Nat, h q = none ∧ h' = upH (upH h q (aR a 10 (va_up (fun _ => none) 0 (some y)))) a (aO 2 [IV (m + 1), .ref q, IV 1])) → (qI (fun (r : Int) (h' : AH) => r = 1 ∧ ∃ q : Nat, h q = none ∧ h' = upH (upH h q (aR a 10 (va_up (fun _ => none) 0 (some y)))) a (aO 2 [IV (m + 1), .ref q, IV 1]))) (some (IV r)) h' := fun r h' h => ⟨r, rfl, h⟩
  generalize (qI (fun (r : Int) (h' : AH) => r = 1 ∧ ∃ q : Nat, h q = none ∧ h' = upH (upH h q (aR a 10 (va_up (fun _ => none) 0 (some y)))) a (aO 2 [IV (m + 1), .ref q, IV 1]))) = QP at hQ ⊢
  refine j_aload_n (pc := 0) dJ2_add_0 rfl ?_
  refine j_dup (pc := 1) dJ2_add_1 rfl ?_
  refine j1_get fa_J2_63_J2 ha rfl dJ2_add_2 ?_
  refine j_iconst (pc := 5) dJ2_add_5 rfl ?_
  refine j_iadd (pc := 6) dJ2_add_6 ?_
  refine j1_put fp_J2_63_J2 ha (Nat.le_of_ble_eq_true rfl) rfl rfl dJ2_add_7 (fun h_7 e_7 => ?_)
  have z_1 : h_7 a = some (aO 2 [IV (m + 1), .ref (K 0), IV 0]) := by rw [e_7]; exact upH_self _ _ _
  have hy7 : EL Γ C h_7 y := by rw [e_7]; exact hy.upd (fun ci fs hc z => by rw [ha] at z; cases z; exact hc rfl)
  refine j_aload_n (pc := 10) dJ2_add_10 rfl ?_
  refine j_aload_n (pc := 11) dJ2_add_11 rfl ?_
  refine j_aload_n (pc := 12) dJ2_add_12 rfl ?_
  refine j1_get fa_J2_9_J2 z_1 rfl dJ2_add_13 ?_
  refine j_aload_n (pc := 16) dJ2_add_16 rfl ?_
  refine j1_get fa_J2_48_J2 z_1 rfl dJ2_add_17 ?_
  refine j_room (cl' := 0 + 1) (sl' := (M - 10) + 10) (by omega) (by omega) ?_
  refine j_callV (pc := 20) (l1_add2E h_7 hke a (m + 1) z_1 y C hca hy7) (lw_V q485 q487 qs9 q47 q488) rfl md_yJ2_add_2 (RC.of1 z_1 rfl) (by decide) (by decide) rfl (Nat.le_of_ble_eq_true rfl) dJ2_add_20 (qV.k (fun s_20 q_20 => ?_))
  refine j_iconst (pc := 23) dJ2_add_23 rfl ?_
  refine j_zret (pc := 24) rfl (Or.inr rfl) (hQ _ _ ?_) dJ2_add_24
  obtain ⟨q9, n9, e9⟩ := q_20
  have nq : q9 ≠ a := fun e => by rw [e, z_1] at n9; cases n9
  exact ⟨rfl, q9, by rw [e_7, upH_ne nq] at n9; exact n9, by rw [e9, e_7]; exact upH3 _ _ _ _ nq⟩

set_option maxHeartbeats 4000000 in
theorem l1_addF {Γ : GG} {A : Nat → Prop} {l : Launch} (h : AH) {K : Nat → Nat} (hke : KE Γ A K)(a b : Nat) (m k : Int) (ha : h a = some (aO 2 [IV m, .ref b, IV k])) (n : Nat) (f : Nat → Option Nat) (hb : h b = some (aR a n f)) (hk : k = (n : Int)) (h1 : 1 ≤ n) (hn : n ≤ 100000) (M : Nat) (hM : n + max 1 (n / 2) ≤ M) (y : Nat) (C : String) (hca : KO Γ C) (hy : EL Γ C h y) (hel : ∀ j : Nat, j < n → ∀ y : Nat, f j = some y → EL Γ C h y) : Ct Γ A (Rep1 Γ A) l yJ2_add (ws_ yJ2_add cJ2_add 2 (some .boolean)) 7 1 M [.ref a, .ref y] h (qI (fun (r : Int) (h' : AH) => r = 1 ∧ ∃ q : Nat, h q = none ∧ h' = upH (upH h q (aR a (n + max 1 (n / 2)) (va_up (fun j => if j < n then f j else none) n (some y)))) a (aO 2 [IV (m + 1), .ref q, IV (k + 1)]))) X0 := by
  refine Ct.ofJ (own := RJ2) (nm := "add") (lo := [some (.ref a), some (.ref y)]) pn_J2 rfl rfl (List.forall_mem_cons.mpr ⟨rfl, (List.forall_mem_cons.mpr ⟨rfl, (fun _ h => nomatch h)⟩)⟩) (Nat.le_of_ble_eq_true rfl) rfl ?_
  have hQ : ∀ (r : Int) (h' : AH), (r = 1 ∧ ∃ q : Nat, h q = none ∧ h' = upH (upH h q (aR a (n + max 1 (n / 2)) (va_up (fun j => if j < n then f j else none) n (some y)))) a (aO 2 [IV (m + 1), .ref q, IV (k + 1)])) → (qI (fun (r : Int) (h' : AH) => r = 1 ∧ ∃ q : Nat, h q = none ∧ h' = upH (upH h q (aR a (n + max 1 (n / 2)) (va_up (fun j => if j < n then f j else none) n (some y)))) a (aO 2 [IV (m + 1), .ref q, IV (k + 1)]))) (some (IV r)) h' := fun r h' h => ⟨r, rfl, h⟩
  generalize (qI (fun (r : Int) (h' : AH) => r = 1 ∧ ∃ q : Nat, h q = none ∧ h' = upH (upH h q (aR a (n + max 1 (n / 2)) (va_up (fun j => if j < n then f j else none) n (some y)))) a (aO 2 [IV (m + 1), .ref q, IV (k + 1)]))) = QP at hQ ⊢
  refine j_aload_n (pc := 0) dJ2_add_0 rfl ?_
  refine j_dup (pc := 1) dJ2_add_1 rfl ?_
  refine j1_get fa_J2_63_J2 ha rfl dJ2_add_2 ?_
  refine j_iconst (pc := 5) dJ2_add_5 rfl ?_
  refine j_iadd (pc := 6) dJ2_add_6 ?_
  refine j1_put fp_J2_63_J2 ha (Nat.le_of_ble_eq_true rfl) rfl rfl dJ2_add_7 (fun h_7 e_7 => ?_)
  have z_1 : h_7 b = some (aR a n f) := by rw [e_7]; exact upH_k hb ha (by intro z; cases z)
  have z_2 : h_7 a = some (aO 2 [IV (m + 1), .ref b, IV k]) := by rw [e_7]; exact upH_self _ _ _
  have hy7 : EL Γ C h_7 y := by rw [e_7]; exact hy.upd (fun ci fs hc z => by rw [ha] at z; cases z; exact hc rfl)
  have hel7 : ∀ j : Nat, j < n → ∀ y : Nat, f j = some y → EL Γ C h_7 y := fun j hj y9 hy9 => by rw [e_7]; exact (hel j hj y9 hy9).upd (fun ci fs hc z => by rw [ha] at z; cases z; exact hc rfl)
  refine j_aload_n (pc := 10) dJ2_add_10 rfl ?_
  refine j_aload_n (pc := 11) dJ2_add_11 rfl ?_
  refine j_aload_n (pc := 12) dJ2_add_12 rfl ?_
  refine j1_get fa_J2_9_J2 z_2 rfl dJ2_add_13 ?_
  refine j_aload_n (pc := 16) dJ2_add_16 rfl ?_
  refine j1_get fa_J2_48_J2 z_2 rfl dJ2_add_17 ?_
  refine j_room (cl' := 0 + 1) (sl' := (M - (n + max 1 (n / 2))) + (n + max 1 (n / 2))) (by omega) (by omega) ?_
  refine j_callV (pc := 20) (l1_add2F h_7 hke a b (m + 1) k z_2 n f z_1 hk h1 hn (n + max 1 (n / 2)) (Nat.le_refl _) y C hca hy7 hel7) (lw_V q485 q487 qs9 q47 q488) rfl md_yJ2_add_2 (RC.of1 z_2 rfl) (by decide) (by decide) rfl (Nat.le_of_ble_eq_true rfl) dJ2_add_20 (qV.k (fun s_20 q_20 => ?_))
  refine j_iconst (pc := 23) dJ2_add_23 rfl ?_
  refine j_zret (pc := 24) rfl (Or.inr rfl) (hQ _ _ ?_) dJ2_add_24
  obtain ⟨q9, n9, e9⟩ := q_20
  have nq : q9 ≠ a := fun e => by rw [e, z_2] at n9; cases n9
  exact ⟨rfl, q9, by rw [e_7, upH_ne nq] at n9; exact n9, by rw [e9, e_7]; exact upH3 _ _ _ _ nq⟩

set_option maxHeartbeats 4000000 in
theorem l1_clear0 {Γ : GG} {A : Nat → Prop} {l : Launch} (h : AH) (a b : Nat) (m : Int) (ha : h a = some (aO 2 [IV m, .ref b, IV 0])) : Ct Γ A (Rep1 Γ A) l yJ2_clear (ws_ yJ2_clear cJ2_clear 4 none) 1 0 0 [.ref a] h (qV (fun (h' : AH) => h' = upH h a (aO 2 [IV (m + 1), .ref b, IV 0]))) X0 := by
  refine Ct.ofJ (own := RJ2) (nm := "clear") (lo := [some (.ref a), none, none, none]) pn_J2 rfl rfl (List.forall_mem_cons.mpr ⟨rfl, (fun _ h => nomatch h)⟩) (Nat.le_of_ble_eq_true rfl) rfl ?_
  have hQ : ∀ (h' : AH), (h' = upH h a (aO 2 [IV (m + 1), .ref b, IV 0])) → (qV (fun (h' : AH) => h' = upH h a (aO 2 [IV (m + 1), .ref b, IV 0]))) none h' := fun h' h => ⟨rfl, h⟩
  generalize (qV (fun (h' : AH) => h' = upH h a (aO 2 [IV (m + 1), .ref b, IV 0]))) = QP at hQ ⊢
  refine j_aload_n (pc := 0) dJ2_clear_0 rfl ?_
  refine j_dup (pc := 1) dJ2_clear_1 rfl ?_
  refine j1_get fa_J2_63_J2 ha rfl dJ2_clear_2 ?_
  refine j_iconst (pc := 5) dJ2_clear_5 rfl ?_
  refine j_iadd (pc := 6) dJ2_clear_6 ?_
  refine j1_put fp_J2_63_J2 ha (Nat.le_of_ble_eq_true rfl) rfl rfl dJ2_clear_7 (fun h_7 e_7 => ?_)
  have z_1 : h_7 a = some (aO 2 [IV (m + 1), .ref b, IV 0]) := by rw [e_7]; exact upH_self _ _ _
  refine j_aload_n (pc := 10) dJ2_clear_10 rfl ?_
  refine j1_get fa_J2_9_J2 z_1 rfl dJ2_clear_11 ?_
  refine j_astore_n (pc := 14) dJ2_clear_14 (by decide) (lo' := [some (.ref a), some (.ref b), none, none]) rfl ?_
  refine j_aload_n (pc := 15) dJ2_clear_15 rfl ?_
  refine j1_get fa_J2_48_J2 z_1 rfl dJ2_clear_16 ?_
  refine j_istore_n (pc := 19) dJ2_clear_19 (by decide) (lo' := [some (.ref a), some (.ref b), some (IV 0), none]) rfl ?_
  refine j_aload_n (pc := 20) dJ2_clear_20 rfl ?_
  refine j_iconst (pc := 21) dJ2_clear_21 rfl ?_
  refine j_dup_x1 (pc := 22) dJ2_clear_22 rfl rfl ?_
  refine j1_put fp_J2_48_J2 z_1 (Nat.le_of_ble_eq_true rfl) rfl rfl dJ2_clear_23 (fun h_23 e_23 => ?_)
  have z_2 : h_23 a = some (aO 2 [IV (m + 1), .ref b, IV 0]) := by rw [e_23]; exact upH_self _ _ _
  refine j_istore_n (pc := 26) dJ2_clear_26 (by decide) (lo' := [some (.ref a), some (.ref b), some (IV 0), some (IV 0)]) rfl ?_
  refine j_iload_n (pc := 27) dJ2_clear_27 rfl ?_
  refine j_iload_n (pc := 28) dJ2_clear_28 rfl ?_
  refine j_icmp_ge (pc := 29) (tgt := 42) dJ2_clear_29 (by decide) (by decide) (by decide) (fun c_29 => ?_) (fun c_29 => ?_)
  · refine j_vret (pc := 42) rfl (hQ _ ?_) dJ2_clear_42
    rw [e_23, e_7, upH_upH]; rfl
  · exact absurd c_29 (by decide)

set_option maxHeartbeats 4000000 in
theorem l1_clear {Γ : GG} {A : Nat → Prop} {l : Launch} (h : AH) (a b : Nat) (m k : Int) (ha : h a = some (aO 2 [IV m, .ref b, IV k])) (n : Nat) (f : Nat → Option Nat) (hb : h b = some (aR a n f)) (hk : 0 ≤ k ∧ k ≤ (n : Int)) (hn : n < 2147483648) : Ct Γ A (Rep1 Γ A) l yJ2_clear (ws_ yJ2_clear cJ2_clear 4 none) 1 0 0 [.ref a] h (qV (fun (h' : AH) => ∃ g : Nat → Option Nat, h' = upH (upH h a (aO 2 [IV (m + 1), .ref b, IV 0])) b (aR a n g))) X0 := by
  refine Ct.ofJ (own := RJ2) (nm := "clear") (lo := [some (.ref a), none, none, none]) pn_J2 rfl rfl (List.forall_mem_cons.mpr ⟨rfl, (fun _ h => nomatch h)⟩) (Nat.le_of_ble_eq_true rfl) rfl ?_
  have hQ : ∀ (h' : AH), (∃ g : Nat → Option Nat, h' = upH (upH h a (aO 2 [IV (m + 1), .ref b, IV 0])) b (aR a n g)) → (qV (fun (h' : AH) => ∃ g : Nat → Option Nat, h' = upH (upH h a (aO 2 [IV (m + 1), .ref b, IV 0])) b (aR a n g))) none h' := fun h' h => ⟨rfl, h⟩
  generalize (qV (fun (h' : AH) => ∃ g : Nat → Option Nat, h' = upH (upH h a (aO 2 [IV (m + 1), .ref b, IV 0])) b (aR a n g))) = QP at hQ ⊢
  refine j_aload_n (pc := 0) dJ2_clear_0 rfl ?_
  refine j_dup (pc := 1) dJ2_clear_1 rfl ?_
  refine j1_get fa_J2_63_J2 ha rfl dJ2_clear_2 ?_
  refine j_iconst (pc := 5) dJ2_clear_5 rfl ?_
  refine j_iadd (pc := 6) dJ2_clear_6 ?_
  refine j1_put fp_J2_63_J2 ha (Nat.le_of_ble_eq_true rfl) rfl rfl dJ2_clear_7 (fun h_7 e_7 => ?_)
  have z_1 : h_7 b = some (aR a n f) := by rw [e_7]; exact upH_k hb ha (by intro z; cases z)
  have z_2 : h_7 a = some (aO 2 [IV (m + 1), .ref b, IV k]) := by rw [e_7]; exact upH_self _ _ _
  refine j_aload_n (pc := 10) dJ2_clear_10 rfl ?_
  refine j1_get fa_J2_9_J2 z_2 rfl dJ2_clear_11 ?_
  refine j_astore_n (pc := 14) dJ2_clear_14 (by decide) (lo' := [some (.ref a), some (.ref b), none, none]) rfl ?_
  refine j_aload_n (pc := 15) dJ2_clear_15 rfl ?_
  refine j1_get fa_J2_48_J2 z_2 rfl dJ2_clear_16 ?_
  refine j_istore_n (pc := 19) dJ2_clear_19 (by decide) (lo' := [some (.ref a), some (.ref b), some (IV k), none]) rfl ?_
  refine j_aload_n (pc := 20) dJ2_clear_20 rfl ?_
  refine j_iconst (pc := 21) dJ2_clear_21 rfl ?_
  refine j_dup_x1 (pc := 22) dJ2_clear_22 rfl rfl ?_
  refine j1_put fp_J2_48_J2 z_2 (Nat.le_of_ble_eq_true rfl) rfl rfl dJ2_clear_23 (fun h_23 e_23 => ?_)
  have z_3 : h_23 b = some (aR a n f) := by rw [e_23]; exact upH_k z_1 z_2 (by intro z; cases z)
  have z_4 : h_23 a = some (aO 2 [IV (m + 1), .ref b, IV 0]) := by rw [e_23]; exact upH_self _ _ _
  refine j_istore_n (pc := 26) dJ2_clear_26 (by decide) (lo' := [some (.ref a), some (.ref b), some (IV k), some (IV 0)]) rfl ?_
  have hl_27 : ∀ (fu : Nat) (i : Nat) (s : AH) (g : Nat → Option Nat), k.toNat - i < fu → (i : Int) ≤ k → s = upH (upH h a (aO 2 [IV (m + 1), .ref b, IV 0])) b (aR a n g) → J Γ A (Rep1 Γ A) l RJ2 "clear" cJ2_clear 4 none [] 1 0 0 QP X0 0 0 s 27 [some (.ref a), some (.ref b), some (IV k), some (IV (i : Int))] [] := by
    intro fu
    induction fu with
    | zero => intro i s g hm; exact absurd hm (Nat.not_lt_zero _)
    | succ fu ih_27 =>
      intro i s g hm hi hs
      have zb : s b = some (aR a n g) := by rw [hs]; exact upH_self _ _ _
      refine j_iload_n (pc := 27) dJ2_clear_27 rfl ?_
      refine j_iload_n (pc := 28) dJ2_clear_28 rfl ?_
      refine j_icmp_ge (pc := 29) (tgt := 42) dJ2_clear_29 (by decide) (by omega) (by omega) (fun c_29 => ?_) (fun c_29 => ?_)
      · refine j_vret (pc := 42) rfl (hQ _ ?_) dJ2_clear_42
        exact ⟨g, hs⟩
      · refine j_aload_n (pc := 32) dJ2_clear_32 rfl ?_
        refine j_iload_n (pc := 33) dJ2_clear_33 rfl ?_
        refine j_null (pc := 34) dJ2_clear_34 ?_
        refine j1_aastN (i := (i : Int)) zb (by show 0 ≤ (i : Int) ∧ (i : Int) < ((n : Nat) : Int); omega) dJ2_clear_35 (fun h_35 e_35 => ?_)
        have z_5 : h_35 b = some (aR a n (va_up g i none)) := by rw [e_35]; exact upH_self _ _ _
        refine j_iinc (pc := 36) dJ2_clear_36 rfl (by decide) (lo' := [some (.ref a), some (.ref b), some (IV k), some (IV ((i : Int) + 1))]) rfl ?_
        refine j_goto (pc := 39) (tgt := 27) dJ2_clear_39 (by decide) ?_
        exact ih_27 (i + 1) h_35 (va_up g i none) (by omega) (by omega) (by rw [e_35, hs, upH_upH]; rfl)
  exact hl_27 _ 0 h_23 f (Nat.lt_succ_self _) (by omega) (by rw [e_23, e_7, upH_upH]; exact (upH_same (upH_d hb (fun e => by rw [e, ha] at hb; cases hb))).symm)

theorem pn_J0 : plainName RJ0 = true := by decide
set_option maxHeartbeats 4000000 in
theorem k_acInit {S : Type} {Γ : GG} {A : Nat → Prop} {Rep : S → Heap → Prop} {l : Launch} (x : S) (a : Nat) : Ct Γ A Rep l yJ0_init (ws_ yJ0_init cJ0_init 1 none) 2 0 0 [.ref a] x (qV (fun (x' : S) => x' = x)) X0 := by
  refine Ct.ofJ (own := RJ0) (nm := "<init>") (lo := [some (.ref a)]) pn_J0 rfl rfl (List.forall_mem_cons.mpr ⟨rfl, (fun _ h => nomatch h)⟩) (Nat.le_of_ble_eq_true rfl) rfl ?_
  have hQ : ∀ (x' : S), (x' = x) → (qV (fun (x' : S) => x' = x)) none x' := fun x' h => ⟨rfl, h⟩
  generalize (qV (fun (x' : S) => x' = x)) = QP at hQ ⊢
  refine j_aload_n (pc := 0) dJ0_init_0 rfl ?_
  refine j_objInit (pc := 1) q100 q87 q88 (by decide) (Nat.le_of_ble_eq_true rfl) dJ0_init_1 ?_
  refine j_vret (pc := 4) rfl (hQ _ ?_) dJ0_init_4
  exact rfl

theorem pn_J1 : plainName RJ1 = true := by decide
theorem md_yJ0_init : MD yJ0_init 0 := by decide +kernel
theorem fp_J1_7_J2 : FP RJ1 7 2 0 (.int) false := ⟨RJ2, TJ2, 3, "java/util/AbstractList", tyJ2, rfl, in_J2, by decide, q105, Or.inl rfl, tyJ2_ok, nmJ2, rfl, rfl, fun h => nomatch h⟩
set_option maxHeartbeats 4000000 in
theorem l1_alInit {Γ : GG} {A : Nat → Prop} {l : Launch} (h : AH) (a : Nat) (ha : h a = some (aO 2 [IV 0, .null, IV 0])) : Ct Γ A (Rep1 Γ A) l yJ1_init (ws_ yJ1_init cJ1_init 1 none) 3 0 0 [.ref a] h (qV (fun (h' : AH) => h' = h)) X0 := by
  refine Ct.ofJ (own := RJ1) (nm := "<init>") (lo := [some (.ref a)]) pn_J1 rfl rfl (List.forall_mem_cons.mpr ⟨rfl, (fun _ h => nomatch h)⟩) (Nat.le_of_ble_eq_true rfl) rfl ?_
  have hQ : ∀ (h' : AH), (h' = h) → (qV (fun (h' : AH) => h' = h)) none h' := fun h' h => ⟨rfl, h⟩
  generalize (qV (fun (h' : AH) => h' = h)) = QP at hQ ⊢
  refine j_aload_n (pc := 0) dJ1_init_0 rfl ?_
  refine j_callI (pc := 1) (k_acInit h a) (lw_meth q99) q45 q97 q98 rfl md_yJ0_init (by decide) (by decide) rfl (Nat.le_of_ble_eq_true rfl) dJ1_init_1 (qV.k (fun s_1 q_1 => ?_))
  obtain rfl := q_1
  refine j_aload_n (pc := 4) dJ1_init_4 rfl ?_
  refine j_iconst (pc := 5) dJ1_init_5 rfl ?_
  refine j1_put fp_J1_7_J2 ha (Nat.le_of_ble_eq_true rfl) rfl rfl dJ1_init_6 (fun h_6 e_6 => ?_)
  have z_1 : h_6 a = some (aO 2 [IV 0, .null, IV 0]) := by rw [e_6]; exact upH_self _ _ _
  refine j_vret (pc := 9) rfl (hQ _ ?_) dJ1_init_9
  rw [e_6]; exact upH_same ha

theorem md_yJ1_init : MD yJ1_init 0 := by decide +kernel
set_option maxHeartbeats 4000000 in
theorem l1_init {Γ : GG} {A : Nat → Prop} {l : Launch} (h : AH) {K : Nat → Nat} (hke : KE Γ A K)(a : Nat) (ha : h a = some (aO 2 [IV 0, .null, IV 0])) : Ct Γ A (Rep1 Γ A) l yJ2_init (ws_ yJ2_init cJ2_init 1 none) 4 0 0 [.ref a] h (qV (fun (h' : AH) => h' = upH h a (aO 2 [IV 0, .ref (K 0), IV 0]))) X0 := by
  refine Ct.ofJ (own := RJ2) (nm := "<init>") (lo := [some (.ref a)]) pn_J2 rfl rfl (List.forall_mem_cons.mpr ⟨rfl, (fun _ h => nomatch h)⟩) (Nat.le_of_ble_eq_true rfl) rfl ?_
  have hQ : ∀ (h' : AH), (h' = upH h a (aO 2 [IV 0, .ref (K 0), IV 0])) → (qV (fun (h' : AH) => h' = upH h a (aO 2 [IV 0, .ref (K 0), IV 0]))) none h' := fun h' h => ⟨rfl, h⟩
  generalize (qV (fun (h' : AH) => h' = upH h a (aO 2 [IV 0, .ref (K 0), IV 0]))) = QP at hQ ⊢
  refine j_aload_n (pc := 0) dJ2_init_0 rfl ?_
  refine j_callI (pc := 1) (l1_alInit h a ha) (lw_meth q96) q46 q94 q95 rfl md_yJ1_init (by decide) (by decide) rfl (Nat.le_of_ble_eq_true rfl) dJ2_init_1 (qV.k (fun s_1 q_1 => ?_))
  obtain rfl := q_1
  refine j_aload_n (pc := 4) dJ2_init_4 rfl ?_
  refine j_gets (pc := 5) hke.2.1 q101 (Or.inl rfl) dJ2_init_5 ?_
  refine j1_put fp_J2_9_J2 ha (Nat.le_of_ble_eq_true rfl) rfl rfl dJ2_init_8 (fun h_8 e_8 => ?_)
  have z_1 : h_8 a = some (aO 2 [IV 0, .ref (K 0), IV 0]) := by rw [e_8]; exact upH_self _ _ _
  refine j_vret (pc := 11) rfl (hQ _ ?_) dJ2_init_11
  rw [e_8]; rfl

theorem pn_yJ22_equals : plainFor yJ22_equals = true := by decide +kernel
set_option maxHeartbeats 4000000 in
theorem k_equals {S : Type} {Γ : GG} {A : Nat → Prop} {Rep : S → Heap → Prop} {l : Launch} (x : S) (a b : Nat) : Ct Γ A Rep l yJ22_equals (ws_ yJ22_equals cJ22_equals 2 (some .boolean)) 1 0 0 [.ref a, .ref b] x (qI (fun (r : Int) (x' : S) => r = bI (a = b) ∧ x' = x)) X0 := by
  refine Ct.ofJF (own := RJ22) (nm := "equals") (lo := [some (.ref a), some (.ref b)]) pn_yJ22_equals rfl rfl (List.forall_mem_cons.mpr ⟨rfl, (List.forall_mem_cons.mpr ⟨rfl, (fun _ h => nomatch h)⟩)⟩) (Nat.le_of_ble_eq_true rfl) rfl ?_
  have hQ : ∀ (r : Int) (x' : S), (r = bI (a = b) ∧ x' = x) → (qI (fun (r : Int) (x' : S) => r = bI (a = b) ∧ x' = x)) (some (IV r)) x' := fun r x' h => ⟨r, rfl, h⟩
  generalize (qI (fun (r : Int) (x' : S) => r = bI (a = b) ∧ x' = x)) = QP at hQ ⊢
  refine j_aload_n (pc := 0) dJ22_equals_0 rfl ?_
  refine j_aload_n (pc := 1) dJ22_equals_1 rfl ?_
  refine j_acmp_ne (pc := 2) (rx := (some a)) (ry := (some b)) (tgt := 9) dJ22_equals_2 (by decide) (fun c_2 => ?_) (fun c_2 => ?_)
  · refine j_iconst (pc := 9) dJ22_equals_9 rfl ?_
    refine j_zret (pc := 10) rfl (Or.inl rfl) (hQ _ _ ?_) dJ22_equals_10
    exact ⟨by unfold bI; split <;> simp_all, rfl⟩
  · refine j_iconst (pc := 5) dJ22_equals_5 rfl ?_
    refine j_goto (pc := 6) (tgt := 10) dJ22_equals_6 (by decide) ?_
    refine j_zret (pc := 10) rfl (Or.inr rfl) (hQ _ _ ?_) dJ22_equals_10
    exact ⟨by unfold bI; split <;> simp_all, rfl⟩

theorem md_yJ22_equals : MD yJ22_equals 1 := by decide +kernel
set_option maxHeartbeats 4000000 in
theorem l1_indexOfRange {Γ : GG} {A : Nat → Prop} {l : Launch} (h : AH) (a b : Nat) (m k : Int) (ha : h a = some (aO 2 [IV m, .ref b, IV k])) (n : Nat) (f : Nat → Option Nat) (hb : h b = some (aR a n f)) (hk : 0 ≤ k ∧ k ≤ (n : Int)) (hn : n < 2147483648) (y : Nat) (hy : EL Γ RX11 h y) (x : Nat → Nat) (hx : ∀ i : Nat, (i : Int) < k → f i = some (x i)) (j : Nat) (hj : (j : Int) < k ∧ x j = y ∧ ∀ i : Nat, i < j → x i ≠ y) : Ct Γ A (Rep1 Γ A) l yJ2_indexOfRange (ws_ yJ2_indexOfRange cJ2_indexOfRange 6 (some .int)) 2 0 0 [.ref a, .ref y, IV 0, IV k] h (qI (fun (r : Int) (h' : AH) => r = (j : Int) ∧ h' = h)) X0 := by
  refine Ct.ofJ (own := RJ2) (nm := "indexOfRange") (lo := [some (.ref a), some (.ref y), some (IV 0), some (IV k), none, none]) pn_J2 rfl rfl (List.forall_mem_cons.mpr ⟨rfl, (List.forall_mem_cons.mpr ⟨rfl, (List.forall_mem_cons.mpr ⟨rfl, (List.forall_mem_cons.mpr ⟨rfl, (fun _ h => nomatch h)⟩)⟩)⟩)⟩) (Nat.le_of_ble_eq_true rfl) rfl ?_
  have hQ : ∀ (r : Int) (h' : AH), (r = (j : Int) ∧ h' = h) → (qI (fun (r : Int) (h' : AH) => r = (j : Int) ∧ h' = h)) (some (IV r)) h' := fun r h' h => ⟨r, rfl, h⟩
  generalize (qI (fun (r : Int) (h' : AH) => r = (j : Int) ∧ h' = h)) = QP at hQ ⊢
  refine j_aload_n (pc := 0) dJ2_indexOfRange_0 rfl ?_
  refine j1_get fa_J2_9_J2 ha rfl dJ2_indexOfRange_1 ?_
  refine j_astore (pc := 4) dJ2_indexOfRange_4 (by decide) (lo' := [some (.ref a), some (.ref y), some (IV 0), some (IV k), some (.ref b), none]) rfl ?_
  refine j_aload_n (pc := 6) dJ2_indexOfRange_6 rfl ?_
  refine j_ifnonnull (pc := 7) (tgt := 39) dJ2_indexOfRange_7 (by decide) ?_
  refine j_iload_n (pc := 39) dJ2_indexOfRange_39 rfl ?_
  refine j_istore (pc := 40) dJ2_indexOfRange_40 (by decide) (lo' := [some (.ref a), some (.ref y), some (IV 0), some (IV k), some (.ref b), some (IV 0)]) rfl ?_
  have hl_42 : ∀ (fu : Nat) (i : Nat), j - i < fu → i ≤ j → J Γ A (Rep1 Γ A) l RJ2 "indexOfRange" cJ2_indexOfRange 6 (some .int) [] 2 0 0 QP X0 0 0 h 42 [some (.ref a), some (.ref y), some (IV 0), some (IV k), some (.ref b), some (IV (i : Int))] [] := by
    intro fu
    induction fu with
    | zero => intro i hm; exact absurd hm (Nat.not_lt_zero _)
    | succ fu ih_42 =>
      intro i hm hi
      refine j_iload (pc := 42) dJ2_indexOfRange_42 rfl ?_
      refine j_iload_n (pc := 44) dJ2_indexOfRange_44 rfl ?_
      refine j_icmp_ge (pc := 45) (tgt := 69) dJ2_indexOfRange_45 (by decide) (by omega) (by omega) (fun c_45 => ?_) (fun c_45 => ?_)
      · exact absurd c_45 (by omega)
      · refine j_aload_n (pc := 48) dJ2_indexOfRange_48 rfl ?_
        refine j_aload (pc := 49) dJ2_indexOfRange_49 rfl ?_
        refine j_iload (pc := 51) dJ2_indexOfRange_51 rfl ?_
        refine j1_aaldS (i := (i : Int)) (v := (x i)) hb (by show 0 ≤ (i : Int) ∧ (i : Int) < ((n : Nat) : Int); omega) (hx i (by omega)) dJ2_indexOfRange_53 ?_
        refine j_callVi (pc := 54) (C := "BallotFoundry$Envelope") (k_equals h y (x i)) (lw_meth q966) q1791 q934 q935 q942 md_yJ22_equals (EL.rc hy) (by decide) (by decide) rfl (Nat.le_of_ble_eq_true rfl) dJ2_indexOfRange_54 (qI.k (fun r_54 s_54 q_54 => ?_))
        obtain ⟨e1q_54, e2q_54⟩ := q_54
        subst r_54
        subst s_54
        refine j_ifb_eq (pc := 57) (tgt := 63) dJ2_indexOfRange_57 (by decide) (fun c_57 => ?_) (fun c_57 => ?_)
        · refine j_iinc (pc := 63) dJ2_indexOfRange_63 rfl (by decide) (lo' := [some (.ref a), some (.ref y), some (IV 0), some (IV k), some (.ref b), some (IV ((i : Int) + 1))]) rfl ?_
          refine j_goto (pc := 66) (tgt := 42) dJ2_indexOfRange_66 (by decide) ?_
          exact ih_42 (i + 1) (by have : i ≠ j := fun e => c_57 (by rw [e]; exact hj.2.1.symm); omega) (by have : i ≠ j := fun e => c_57 (by rw [e]; exact hj.2.1.symm); omega)
        · refine j_iload (pc := 60) dJ2_indexOfRange_60 rfl ?_
          refine j_iret (pc := 62) rfl (hQ _ _ ?_) dJ2_indexOfRange_62
          exact ⟨by have h9 : ¬ i < j := fun z => hj.2.2 i z c_57.symm; omega, rfl⟩
  exact hl_42 _ 0 (Nat.lt_succ_self _) (by omega)

theorem md_yJ2_indexOfRange : MD yJ2_indexOfRange 3 := by decide +kernel
set_option maxHeartbeats 4000000 in
theorem l1_indexOf {Γ : GG} {A : Nat → Prop} {l : Launch} (h : AH) (a b : Nat) (m k : Int) (ha : h a = some (aO 2 [IV m, .ref b, IV k])) (n : Nat) (f : Nat → Option Nat) (hb : h b = some (aR a n f)) (hk : 0 ≤ k ∧ k ≤ (n : Int)) (hn : n < 2147483648) (y : Nat) (hy : EL Γ RX11 h y) (x : Nat → Nat) (hx : ∀ i : Nat, (i : Int) < k → f i = some (x i)) (j : Nat) (hj : (j : Int) < k ∧ x j = y ∧ ∀ i : Nat, i < j → x i ≠ y) : Ct Γ A (Rep1 Γ A) l yJ2_indexOf (ws_ yJ2_indexOf cJ2_indexOf 2 (some .int)) 3 0 0 [.ref a, .ref y] h (qI (fun (r : Int) (h' : AH) => r = (j : Int) ∧ h' = h)) X0 := by
  refine Ct.ofJ (own := RJ2) (nm := "indexOf") (lo := [some (.ref a), some (.ref y)]) pn_J2 rfl rfl (List.forall_mem_cons.mpr ⟨rfl, (List.forall_mem_cons.mpr ⟨rfl, (fun _ h => nomatch h)⟩)⟩) (Nat.le_of_ble_eq_true rfl) rfl ?_
  have hQ : ∀ (r : Int) (h' : AH), (r = (j : Int) ∧ h' = h) → (qI (fun (r : Int) (h' : AH) => r = (j : Int) ∧ h' = h)) (some (IV r)) h' := fun r h' h => ⟨r, rfl, h⟩
  generalize (qI (fun (r : Int) (h' : AH) => r = (j : Int) ∧ h' = h)) = QP at hQ ⊢
  refine j_aload_n (pc := 0) dJ2_indexOf_0 rfl ?_
  refine j_aload_n (pc := 1) dJ2_indexOf_1 rfl ?_
  refine j_iconst (pc := 2) dJ2_indexOf_2 rfl ?_
  refine j_aload_n (pc := 3) dJ2_indexOf_3 rfl ?_
  refine j1_get fa_J2_48_J2 ha rfl dJ2_indexOf_4 ?_
  refine j_callV (pc := 7) (l1_indexOfRange h a b m k ha n f hb hk hn y hy x hx j hj) (lw_V q929 q930 q931 q47 q932) rfl md_yJ2_indexOfRange (RC.of1 ha rfl) (by decide) (by decide) rfl (Nat.le_of_ble_eq_true rfl) dJ2_indexOf_7 (qI.k (fun r_7 s_7 q_7 => ?_))
  obtain ⟨e1q_7, e2q_7⟩ := q_7
  subst r_7
  subst s_7
  refine j_iret (pc := 10) rfl (hQ _ _ ?_) dJ2_indexOf_10
  exact ⟨rfl, rfl⟩

