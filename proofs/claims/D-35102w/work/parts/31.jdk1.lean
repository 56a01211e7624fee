set_option maxRecDepth 100000
theorem pn_yJ9_max : plainFor yJ9_max = true := by decide +kernel
set_option maxHeartbeats 4000000 in
theorem k_max {S : Type} {Γ : GG} {A : Nat → Prop} {Rep : S → Heap → Prop} {l : Launch} (x : S) (a b : Int) (ha : RR a) (hb : RR b) : Ct Γ A Rep l yJ9_max (ws_ yJ9_max cJ9_max 2 (some .int)) 1 0 0 [IV a, IV b] x (qI (fun (r : Int) (x' : S) => r = max a b ∧ x' = x)) X0 := by
  refine Ct.ofJF (own := RJ9) (nm := "max") (lo := [some (IV a), some (IV b)]) pn_yJ9_max rfl rfl (List.forall_mem_cons.mpr ⟨rfl, (List.forall_mem_cons.mpr ⟨rfl, (fun _ h => nomatch h)⟩)⟩) (Nat.le_of_ble_eq_true rfl) rfl ?_
  have hQ : ∀ (r : Int) (x' : S), (r = max a b ∧ x' = x) → (qI (fun (r : Int) (x' : S) => r = max a b ∧ x' = x)) (some (IV r)) x' := fun r x' h => ⟨r, rfl, h⟩
  generalize (qI (fun (r : Int) (x' : S) => r = max a b ∧ x' = x)) = QP at hQ ⊢
  refine j_iload_n (pc := 0) dJ9_max_0 rfl ?_
  refine j_iload_n (pc := 1) dJ9_max_1 rfl ?_
  refine j_icmp_lt (pc := 2) (tgt := 9) dJ9_max_2 (by decide) (by omega) (by omega) (fun c_2 => ?_) (fun c_2 => ?_)
  · refine j_iload_n (pc := 9) dJ9_max_9 rfl ?_
    refine j_iret (pc := 10) rfl (hQ _ _ ?_) dJ9_max_10
    exact ⟨by omega, rfl⟩
  · refine j_iload_n (pc := 5) dJ9_max_5 rfl ?_
    refine j_goto (pc := 6) (tgt := 10) dJ9_max_6 (by decide) ?_
    refine j_iret (pc := 10) rfl (hQ _ _ ?_) dJ9_max_10
    exact ⟨by omega, rfl⟩

theorem pn_yJ9_min : plainFor yJ9_min = true := by decide +kernel
set_option maxHeartbeats 4000000 in
theorem k_min {S : Type} {Γ : GG} {A : Nat → Prop} {Rep : S → Heap → Prop} {l : Launch} (x : S) (a b : Int) (ha : RR a) (hb : RR b) : Ct Γ A Rep l yJ9_min (ws_ yJ9_min cJ9_min 2 (some .int)) 1 0 0 [IV a, IV b] x (qI (fun (r : Int) (x' : S) => r = min a b ∧ x' = x)) X0 := by
  refine Ct.ofJF (own := RJ9) (nm := "min") (lo := [some (IV a), some (IV b)]) pn_yJ9_min rfl rfl (List.forall_mem_cons.mpr ⟨rfl, (List.forall_mem_cons.mpr ⟨rfl, (fun _ h => nomatch h)⟩)⟩) (Nat.le_of_ble_eq_true rfl) rfl ?_
  have hQ : ∀ (r : Int) (x' : S), (r = min a b ∧ x' = x) → (qI (fun (r : Int) (x' : S) => r = min a b ∧ x' = x)) (some (IV r)) x' := fun r x' h => ⟨r, rfl, h⟩
  generalize (qI (fun (r : Int) (x' : S) => r = min a b ∧ x' = x)) = QP at hQ ⊢
  refine j_iload_n (pc := 0) dJ9_min_0 rfl ?_
  refine j_iload_n (pc := 1) dJ9_min_1 rfl ?_
  refine j_icmp_gt (pc := 2) (tgt := 9) dJ9_min_2 (by decide) (by omega) (by omega) (fun c_2 => ?_) (fun c_2 => ?_)
  · refine j_iload_n (pc := 9) dJ9_min_9 rfl ?_
    refine j_iret (pc := 10) rfl (hQ _ _ ?_) dJ9_min_10
    exact ⟨by omega, rfl⟩
  · refine j_iload_n (pc := 5) dJ9_min_5 rfl ?_
    refine j_goto (pc := 6) (tgt := 10) dJ9_min_6 (by decide) ?_
    refine j_iret (pc := 10) rfl (hQ _ _ ?_) dJ9_min_10
    exact ⟨by omega, rfl⟩

theorem pn_J12 : plainName RJ12 = true := by decide
theorem md_yJ9_max : MD yJ9_max 2 := by decide +kernel
set_option maxHeartbeats 4000000 in
theorem k_newLength {S : Type} {Γ : GG} {A : Nat → Prop} {Rep : S → Heap → Prop} {l : Launch} (x : S) (o a b : Int) (ho : 0 ≤ o ∧ o ≤ 1000000) (ha : 1 ≤ a ∧ a ≤ 1000000) (hb : 0 ≤ b ∧ b ≤ 1000000) : Ct Γ A Rep l yJ12_newLength (ws_ yJ12_newLength cJ12_newLength 4 (some .int)) 2 0 0 [IV o, IV a, IV b] x (qI (fun (r : Int) (x' : S) => r = o + max a b ∧ x' = x)) X0 := by
  refine Ct.ofJ (own := RJ12) (nm := "newLength") (lo := [some (IV o), some (IV a), some (IV b), none]) pn_J12 rfl rfl (List.forall_mem_cons.mpr ⟨rfl, (List.forall_mem_cons.mpr ⟨rfl, (List.forall_mem_cons.mpr ⟨rfl, (fun _ h => nomatch h)⟩)⟩)⟩) (Nat.le_of_ble_eq_true rfl) rfl ?_
  have hQ : ∀ (r : Int) (x' : S), (r = o + max a b ∧ x' = x) → (qI (fun (r : Int) (x' : S) => r = o + max a b ∧ x' = x)) (some (IV r)) x' := fun r x' h => ⟨r, rfl, h⟩
  generalize (qI (fun (r : Int) (x' : S) => r = o + max a b ∧ x' = x)) = QP at hQ ⊢
  refine j_iload_n (pc := 0) dJ12_newLength_0 rfl ?_
  refine j_iload_n (pc := 1) dJ12_newLength_1 rfl ?_
  refine j_iload_n (pc := 2) dJ12_newLength_2 rfl ?_
  refine j_callS (pc := 3) (k_max x a b (by omega) (by omega)) (lw_S q500 q401 q55 q402) md_yJ9_max (by decide) (by decide) rfl (Nat.le_of_ble_eq_true rfl) dJ12_newLength_3 (qI.k (fun r_3 s_3 q_3 => ?_))
  obtain ⟨e1q_3, e2q_3⟩ := q_3
  subst r_3
  subst s_3
  refine j_iadd (pc := 6) dJ12_newLength_6 ?_
  refine j_istore_n (pc := 7) dJ12_newLength_7 (by decide) (lo' := [some (IV o), some (IV a), some (IV b), some (IV (o + (max a b)))]) rfl ?_
  refine j_iconst (pc := 8) dJ12_newLength_8 rfl ?_
  refine j_iload_n (pc := 9) dJ12_newLength_9 rfl ?_
  refine j_icmp_ge (pc := 10) (tgt := 21) dJ12_newLength_10 (by decide) (by decide) (by omega) (fun c_10 => ?_) (fun c_10 => ?_)
  · exact absurd c_10 (by omega)
  · refine j_iload_n (pc := 13) dJ12_newLength_13 rfl ?_
    refine j_ldc (pc := 14) (a := 2147483639) q501 dJ12_newLength_14 (by decide) ?_
    refine j_icmp_gt (pc := 16) (tgt := 21) dJ12_newLength_16 (by decide) (by omega) (by decide) (fun c_16 => ?_) (fun c_16 => ?_)
    · exact absurd c_16 (by omega)
    · refine j_iload_n (pc := 19) dJ12_newLength_19 rfl ?_
      refine j_iret (pc := 20) rfl (hQ _ _ ?_) dJ12_newLength_20
      exact ⟨rfl, rfl⟩

theorem pn_J15 : plainName RJ15 = true := by decide
set_option maxHeartbeats 4000000 in
theorem k_checkIndex3 {S : Type} {Γ : GG} {A : Nat → Prop} {Rep : S → Heap → Prop} {l : Launch} (x : S) (i n : Int) (hi : 0 ≤ i ∧ i < n) (hn : RR n) : Ct Γ A Rep l yJ15_checkIndex (ws_ yJ15_checkIndex cJ15_checkIndex 3 (some .int)) 1 0 0 [IV i, IV n, .null] x (qI (fun (r : Int) (x' : S) => r = i ∧ x' = x)) X0 := by
  refine Ct.ofJ (own := RJ15) (nm := "checkIndex") (lo := [some (IV i), some (IV n), some (.null)]) pn_J15 rfl rfl (List.forall_mem_cons.mpr ⟨rfl, (List.forall_mem_cons.mpr ⟨rfl, (List.forall_mem_cons.mpr ⟨rfl, (fun _ h => nomatch h)⟩)⟩)⟩) (Nat.le_of_ble_eq_true rfl) rfl ?_
  have hQ : ∀ (r : Int) (x' : S), (r = i ∧ x' = x) → (qI (fun (r : Int) (x' : S) => r = i ∧ x' = x)) (some (IV r)) x' := fun r x' h => ⟨r, rfl, h⟩
  generalize (qI (fun (r : Int) (x' : S) => r = i ∧ x' = x)) = QP at hQ ⊢
  refine j_iload_n (pc := 0) dJ15_checkIndex_0 rfl ?_
  refine j_if_lt (pc := 1) (tgt := 9) dJ15_checkIndex_1 (by decide) (by omega) (fun c_1 => ?_) (fun c_1 => ?_)
  · exact absurd c_1 (by omega)
  · refine j_iload_n (pc := 4) dJ15_checkIndex_4 rfl ?_
    refine j_iload_n (pc := 5) dJ15_checkIndex_5 rfl ?_
    refine j_icmp_lt (pc := 6) (tgt := 16) dJ15_checkIndex_6 (by decide) (by omega) (by omega) (fun c_6 => ?_) (fun c_6 => ?_)
    · refine j_iload_n (pc := 16) dJ15_checkIndex_16 rfl ?_
      refine j_iret (pc := 17) rfl (hQ _ _ ?_) dJ15_checkIndex_17
      exact ⟨rfl, rfl⟩
    · exact absurd c_6 (by omega)

theorem pn_J14 : plainName RJ14 = true := by decide
theorem md_yJ15_checkIndex : MD yJ15_checkIndex 3 := by decide +kernel
set_option maxHeartbeats 4000000 in
theorem k_checkIndex {S : Type} {Γ : GG} {A : Nat → Prop} {Rep : S → Heap → Prop} {l : Launch} (x : S) (i n : Int) (hi : 0 ≤ i ∧ i < n) (hn : RR n) : Ct Γ A Rep l yJ14_checkIndex (ws_ yJ14_checkIndex cJ14_checkIndex 2 (some .int)) 2 0 0 [IV i, IV n] x (qI (fun (r : Int) (x' : S) => r = i ∧ x' = x)) X0 := by
  refine Ct.ofJ (own := RJ14) (nm := "checkIndex") (lo := [some (IV i), some (IV n)]) pn_J14 rfl rfl (List.forall_mem_cons.mpr ⟨rfl, (List.forall_mem_cons.mpr ⟨rfl, (fun _ h => nomatch h)⟩)⟩) (Nat.le_of_ble_eq_true rfl) rfl ?_
  have hQ : ∀ (r : Int) (x' : S), (r = i ∧ x' = x) → (qI (fun (r : Int) (x' : S) => r = i ∧ x' = x)) (some (IV r)) x' := fun r x' h => ⟨r, rfl, h⟩
  generalize (qI (fun (r : Int) (x' : S) => r = i ∧ x' = x)) = QP at hQ ⊢
  refine j_iload_n (pc := 0) dJ14_checkIndex_0 rfl ?_
  refine j_iload_n (pc := 1) dJ14_checkIndex_1 rfl ?_
  refine j_null (pc := 2) dJ14_checkIndex_2 ?_
  refine j_callS (pc := 3) (k_checkIndex3 x i n (by omega) (by omega)) (lw_S q193 q194 q63 q195) md_yJ15_checkIndex (by decide) (by decide) rfl (Nat.le_of_ble_eq_true rfl) dJ14_checkIndex_3 (qI.k (fun r_3 s_3 q_3 => ?_))
  obtain ⟨e1q_3, e2q_3⟩ := q_3
  subst r_3
  subst s_3
  refine j_iret (pc := 6) rfl (hQ _ _ ?_) dJ14_checkIndex_6
  exact ⟨rfl, rfl⟩

theorem pn_J2 : plainName RJ2 = true := by decide
theorem fa_J2_48_J2 : FA RJ2 48 2 2 := ⟨RJ2, TJ2, 3, "java/util/ArrayList", rfl, in_J2, by decide, q104, Or.inl rfl⟩
set_option maxHeartbeats 4000000 in
theorem l1_size {Γ : GG} {A : Nat → Prop} {l : Launch} (h : AH) (a b : Nat) (m k : Int) (ha : h a = some (aO 2 [IV m, .ref b, IV k])) : Ct Γ A (Rep1 Γ A) l yJ2_size (ws_ yJ2_size cJ2_size 1 (some .int)) 1 0 0 [.ref a] h (qI (fun (r : Int) (h' : AH) => r = k ∧ h' = h)) X0 := by
  refine Ct.ofJ (own := RJ2) (nm := "size") (lo := [some (.ref a)]) pn_J2 rfl rfl (List.forall_mem_cons.mpr ⟨rfl, (fun _ h => nomatch h)⟩) (Nat.le_of_ble_eq_true rfl) rfl ?_
  have hQ : ∀ (r : Int) (h' : AH), (r = k ∧ h' = h) → (qI (fun (r : Int) (h' : AH) => r = k ∧ h' = h)) (some (IV r)) h' := fun r h' h => ⟨r, rfl, h⟩
  generalize (qI (fun (r : Int) (h' : AH) => r = k ∧ h' = h)) = QP at hQ ⊢
  refine j_aload_n (pc := 0) dJ2_size_0 rfl ?_
  refine j1_get fa_J2_48_J2 ha rfl dJ2_size_1 ?_
  refine j_iret (pc := 4) rfl (hQ _ _ ?_) dJ2_size_4
  exact ⟨rfl, rfl⟩

set_option maxHeartbeats 4000000 in
theorem l1_isEmpty {Γ : GG} {A : Nat → Prop} {l : Launch} (h : AH) (a b : Nat) (m k : Int) (ha : h a = some (aO 2 [IV m, .ref b, IV k])) (hk : RR k) : Ct Γ A (Rep1 Γ A) l yJ2_isEmpty (ws_ yJ2_isEmpty cJ2_isEmpty 1 (some .boolean)) 1 0 0 [.ref a] h (qI (fun (r : Int) (h' : AH) => r = bI (k = 0) ∧ h' = h)) X0 := by
  refine Ct.ofJ (own := RJ2) (nm := "isEmpty") (lo := [some (.ref a)]) pn_J2 rfl rfl (List.forall_mem_cons.mpr ⟨rfl, (fun _ h => nomatch h)⟩) (Nat.le_of_ble_eq_true rfl) rfl ?_
  have hQ : ∀ (r : Int) (h' : AH), (r = bI (k = 0) ∧ h' = h) → (qI (fun (r : Int) (h' : AH) => r = bI (k = 0) ∧ h' = h)) (some (IV r)) h' := fun r h' h => ⟨r, rfl, h⟩
  generalize (qI (fun (r : Int) (h' : AH) => r = bI (k = 0) ∧ h' = h)) = QP at hQ ⊢
  refine j_aload_n (pc := 0) dJ2_isEmpty_0 rfl ?_
  refine j1_get fa_J2_48_J2 ha rfl dJ2_isEmpty_1 ?_
  refine j_if_ne (pc := 4) (tgt := 11) dJ2_isEmpty_4 (by decide) (by omega) (fun c_4 => ?_) (fun c_4 => ?_)
  · refine j_iconst (pc := 11) dJ2_isEmpty_11 rfl ?_
    refine j_zret (pc := 12) rfl (Or.inl rfl) (hQ _ _ ?_) dJ2_isEmpty_12
    exact ⟨by unfold bI; split <;> omega, rfl⟩
  · refine j_iconst (pc := 7) dJ2_isEmpty_7 rfl ?_
    refine j_goto (pc := 8) (tgt := 12) dJ2_isEmpty_8 (by decide) ?_
    refine j_zret (pc := 12) rfl (Or.inr rfl) (hQ _ _ ?_) dJ2_isEmpty_12
    exact ⟨by unfold bI; split <;> omega, rfl⟩

theorem fa_J2_9_J2 : FA RJ2 9 2 1 := ⟨RJ2, TJ2, 3, "java/util/ArrayList", rfl, in_J2, by decide, q103, Or.inl rfl⟩
set_option maxHeartbeats 4000000 in
theorem l1_elementData {Γ : GG} {A : Nat → Prop} {l : Launch} (h : AH) (a b : Nat) (m k : Int) (ha : h a = some (aO 2 [IV m, .ref b, IV k])) (n : Nat) (f : Nat → Option Nat) (hb : h b = some (aR a n f)) (i : Int) (v : Nat) (hi : 0 ≤ i ∧ i < n) (hf : f i.toNat = some v) : Ct Γ A (Rep1 Γ A) l yJ2_elementData (ws_ yJ2_elementData cJ2_elementData 2 (some (.object "java/lang/Object"))) 1 0 0 [.ref a, IV i] h (qR (fun (r : Nat) (h' : AH) => r = v ∧ h' = h)) X0 := by
  refine Ct.ofJ (own := RJ2) (nm := "elementData") (lo := [some (.ref a), some (IV i)]) pn_J2 rfl rfl (List.forall_mem_cons.mpr ⟨rfl, (List.forall_mem_cons.mpr ⟨rfl, (fun _ h => nomatch h)⟩)⟩) (Nat.le_of_ble_eq_true rfl) rfl ?_
  have hQ : ∀ (r : Nat) (h' : AH), (r = v ∧ h' = h) → (qR (fun (r : Nat) (h' : AH) => r = v ∧ h' = h)) (some (.ref r)) h' := fun r h' h => ⟨r, rfl, h⟩
  generalize (qR (fun (r : Nat) (h' : AH) => r = v ∧ h' = h)) = QP at hQ ⊢
  refine j_aload_n (pc := 0) dJ2_elementData_0 rfl ?_
  refine j1_get fa_J2_9_J2 ha rfl dJ2_elementData_1 ?_
  refine j_iload_n (pc := 4) dJ2_elementData_4 rfl ?_
  refine j1_aaldS (i := i) (v := v) hb (by show 0 ≤ i ∧ i < ((n : Nat) : Int); omega) hf dJ2_elementData_5 ?_
  refine j_aret (pc := 6) rfl (by first | exact Or.inl ⟨_, rfl⟩ | exact Or.inr ⟨_, rfl⟩) (hQ _ _ ?_) dJ2_elementData_6
  exact ⟨rfl, rfl⟩

theorem md_yJ14_checkIndex : MD yJ14_checkIndex 2 := by decide +kernel
theorem md_yJ2_elementData : MD yJ2_elementData 1 := by decide +kernel
set_option maxHeartbeats 4000000 in
theorem l1_get {Γ : GG} {A : Nat → Prop} {l : Launch} (h : AH) (a b : Nat) (m k : Int) (ha : h a = some (aO 2 [IV m, .ref b, IV k])) (n : Nat) (f : Nat → Option Nat) (hb : h b = some (aR a n f)) (i : Int) (v : Nat) (hi : 0 ≤ i ∧ i < k) (hk : RR k) (hi2 : 0 ≤ i ∧ i < n) (hf : f i.toNat = some v) : Ct Γ A (Rep1 Γ A) l yJ2_get (ws_ yJ2_get cJ2_get 2 (some (.object "java/lang/Object"))) 3 0 0 [.ref a, IV i] h (qR (fun (r : Nat) (h' : AH) => r = v ∧ h' = h)) X0 := by
  refine Ct.ofJ (own := RJ2) (nm := "get") (lo := [some (.ref a), some (IV i)]) pn_J2 rfl rfl (List.forall_mem_cons.mpr ⟨rfl, (List.forall_mem_cons.mpr ⟨rfl, (fun _ h => nomatch h)⟩)⟩) (Nat.le_of_ble_eq_true rfl) rfl ?_
  have hQ : ∀ (r : Nat) (h' : AH), (r = v ∧ h' = h) → (qR (fun (r : Nat) (h' : AH) => r = v ∧ h' = h)) (some (.ref r)) h' := fun r h' h => ⟨r, rfl, h⟩
  generalize (qR (fun (r : Nat) (h' : AH) => r = v ∧ h' = h)) = QP at hQ ⊢
  refine j_iload_n (pc := 0) dJ2_get_0 rfl ?_
  refine j_aload_n (pc := 1) dJ2_get_1 rfl ?_
  refine j1_get fa_J2_48_J2 ha rfl dJ2_get_2 ?_
  refine j_callS (pc := 5) (k_checkIndex h i k (by omega) (by omega)) (lw_S q190 q191 q62 q192) md_yJ14_checkIndex (by decide) (by decide) rfl (Nat.le_of_ble_eq_true rfl) dJ2_get_5 (qI.k (fun r_5 s_5 q_5 => ?_))
  obtain ⟨e1q_5, e2q_5⟩ := q_5
  subst r_5
  subst s_5
  refine j_pop (pc := 8) dJ2_get_8 rfl ?_
  refine j_aload_n (pc := 9) dJ2_get_9 rfl ?_
  refine j_iload_n (pc := 10) dJ2_get_10 rfl ?_
  refine j_callV (pc := 11) (l1_elementData h a b m k ha n f hb i v hi2 hf) (lw_V q196 q197 q198 q47 q199) rfl md_yJ2_elementData (RC.of1 ha rfl) (by decide) (by decide) rfl (Nat.le_of_ble_eq_true rfl) dJ2_get_11 (qR.k (fun r_11 s_11 q_11 => ?_))
  obtain ⟨e1q_11, e2q_11⟩ := q_11
  subst r_11
  subst s_11
  refine j_aret (pc := 14) rfl (by first | exact Or.inl ⟨_, rfl⟩ | exact Or.inr ⟨_, rfl⟩) (hQ _ _ ?_) dJ2_get_14
  exact ⟨rfl, rfl⟩

theorem pn_J13 : plainName RJ13 = true := by decide
theorem md_yJ9_min : MD yJ9_min 2 := by decide +kernel
set_option maxHeartbeats 4000000 in
theorem l1_copyOf3 {Γ : GG} {A : Nat → Prop} {l : Launch} (h : AH) {K : Nat → Nat} (hke : KE Γ A K) (n : Nat) (f : Nat → Option Nat) (o8 b : Nat) (hb : h b = some (aR o8 n f)) (C : String) (hca : KO Γ C) (hel : ∀ j : Nat, j < n → ∀ y : Nat, f j = some y → EL Γ C h y) (o9 N : Nat) (hN : n ≤ N) (hN2 : N < 100000000) : Ct Γ A (Rep1 Γ A) l yJ13_copyOf_2 (ws_ yJ13_copyOf_2 cJ13_copyOf_2 4 (some (.array (.object "java/lang/Object")))) 2 1 N [.ref b, IV (N : Int), .ref (K 1)] h (qR (fun (r : Nat) (h' : AH) => h r = none ∧ h' = upH h r (aR o9 N (fun j => if j < n then f j else none)))) X0 := by
  refine Ct.ofJ (own := RJ13) (nm := "copyOf") (lo := [some (.ref b), some (IV (N : Int)), some (.ref (K 1)), none]) pn_J13 rfl rfl (List.forall_mem_cons.mpr ⟨rfl, (List.forall_mem_cons.mpr ⟨rfl, (List.forall_mem_cons.mpr ⟨rfl, (fun _ h => nomatch h)⟩)⟩)⟩) (Nat.le_of_ble_eq_true rfl) rfl ?_
  have hQ : ∀ (r : Nat) (h' : AH), (h r = none ∧ h' = upH h r (aR o9 N (fun j => if j < n then f j else none))) → (qR (fun (r : Nat) (h' : AH) => h r = none ∧ h' = upH h r (aR o9 N (fun j => if j < n then f j else none)))) (some (.ref r)) h' := fun r h' h => ⟨r, rfl, h⟩
  generalize (qR (fun (r : Nat) (h' : AH) => h r = none ∧ h' = upH h r (aR o9 N (fun j => if j < n then f j else none)))) = QP at hQ ⊢
  refine j_aload_n (pc := 0) dJ13_copyOf_2_0 rfl ?_
  refine j_ldcM (pc := 1) (fun s H hh => (hke.2.2.2.2 s H hh).1) q534 dJ13_copyOf_2_1 ?_
  refine j_acmp_ne (pc := 3) (rx := (some (K 1))) (ry := (some (K 1))) (tgt := 13) dJ13_copyOf_2_3 (by decide) (fun c_3 => ?_) (fun c_3 => ?_)
  · exact absurd rfl c_3
  · refine j_iload_n (pc := 6) dJ13_copyOf_2_6 rfl ?_
    refine j_room (cl' := 0 + 1) (sl' := 0 + N) (by omega) (by omega) ?_
    refine j1_anew (i := (N : Int)) (N := N) o9 hke.1 hke.2.2.2.1 q536 (by omega) rfl (by omega) dJ13_copyOf_2_7 (fun a_7 h_7 n_7 e_7 => ?_)
    have z_1 : h_7 b = some (aR o8 n f) := by rw [e_7]; exact upH_old hb n_7
    have ne_2 : b ≠ a_7 := fresh_ne hb n_7
    have z_3 : h_7 a_7 = some (aR o9 N (fun _ => none)) := by rw [e_7]; exact upH_self _ _ _
    refine j_goto (pc := 10) (tgt := 24) dJ13_copyOf_2_10 (by decide) ?_
    refine j_astore_n (pc := 24) dJ13_copyOf_2_24 (by decide) (lo' := [some (.ref b), some (IV (N : Int)), some (.ref (K 1)), some (.ref a_7)]) rfl ?_
    refine j_aload_n (pc := 25) dJ13_copyOf_2_25 rfl ?_
    refine j_iconst (pc := 26) dJ13_copyOf_2_26 rfl ?_
    refine j_aload_n (pc := 27) dJ13_copyOf_2_27 rfl ?_
    refine j_iconst (pc := 28) dJ13_copyOf_2_28 rfl ?_
    refine j_aload_n (pc := 29) dJ13_copyOf_2_29 rfl ?_
    refine j1_alenR z_1 dJ13_copyOf_2_30 ?_
    refine j_iload_n (pc := 31) dJ13_copyOf_2_31 rfl ?_
    refine j_callS (pc := 32) (k_min h_7 ((n : Nat) : Int) (N : Int) (by omega) (by omega)) (lw_S q537 q398 q55 q399) md_yJ9_min (by decide) (by decide) rfl (Nat.le_of_ble_eq_true rfl) dJ13_copyOf_2_32 (qI.k (fun r_32 s_32 q_32 => ?_))
    obtain ⟨e1q_32, e2q_32⟩ := q_32
    subst r_32
    subst s_32
    refine j_eqI (n : Int) (by omega) ?_
    refine j1_copyq (pc := 35) (N := n) q538 q540 q539 q61 ne_2 z_1 z_3 rfl (by omega) (Nat.le_refl _) hN (fun j hj y hy => EL.rc (by rw [e_7]; exact (hel j hj y hy).upd (fun ci fs _ z => by rw [n_7] at z; cases z))) hca (by decide) (Nat.le_of_ble_eq_true rfl) dJ13_copyOf_2_35 (fun h_35 e_35 => ?_)
    have z_4 : h_35 b = some (aR o8 n f) := by rw [e_35]; exact upH_d z_1 ne_2
    have z_5 : h_35 a_7 = some (aR o9 N (fun j => if j < n then f j else none)) := by rw [e_35]; exact upH_self _ _ _
    refine j_aload_n (pc := 38) dJ13_copyOf_2_38 rfl ?_
    refine j_aret (pc := 39) rfl (by first | exact Or.inl ⟨_, rfl⟩ | exact Or.inr ⟨_, rfl⟩) (hQ _ _ ?_) dJ13_copyOf_2_39
    exact ⟨n_7, by rw [e_35, e_7, upH_upH]⟩

theorem md_yJ13_copyOf_2 : MD yJ13_copyOf_2 3 := by decide +kernel
set_option maxHeartbeats 4000000 in
theorem l1_copyOf {Γ : GG} {A : Nat → Prop} {l : Launch} (h : AH) {K : Nat → Nat} (hke : KE Γ A K) (n : Nat) (f : Nat → Option Nat) (o8 b : Nat) (hb : h b = some (aR o8 n f)) (C : String) (hca : KO Γ C) (hel : ∀ j : Nat, j < n → ∀ y : Nat, f j = some y → EL Γ C h y) (o9 N : Nat) (hN : n ≤ N) (hN2 : N < 100000000) : Ct Γ A (Rep1 Γ A) l yJ13_copyOf (ws_ yJ13_copyOf cJ13_copyOf 2 (some (.array (.object "java/lang/Object")))) 3 1 N [.ref b, IV (N : Int)] h (qR (fun (r : Nat) (h' : AH) => h r = none ∧ h' = upH h r (aR o9 N (fun j => if j < n then f j else none)))) X0 := by
  refine Ct.ofJ (own := RJ13) (nm := "copyOf") (lo := [some (.ref b), some (IV (N : Int))]) pn_J13 rfl rfl (List.forall_mem_cons.mpr ⟨rfl, (List.forall_mem_cons.mpr ⟨rfl, (fun _ h => nomatch h)⟩)⟩) (Nat.le_of_ble_eq_true rfl) rfl ?_
  have hQ : ∀ (r : Nat) (h' : AH), (h r = none ∧ h' = upH h r (aR o9 N (fun j => if j < n then f j else none))) → (qR (fun (r : Nat) (h' : AH) => h r = none ∧ h' = upH h r (aR o9 N (fun j => if j < n then f j else none)))) (some (.ref r)) h' := fun r h' h => ⟨r, rfl, h⟩
  generalize (qR (fun (r : Nat) (h' : AH) => h r = none ∧ h' = upH h r (aR o9 N (fun j => if j < n then f j else none)))) = QP at hQ ⊢
  refine j_aload_n (pc := 0) dJ13_copyOf_0 rfl ?_
  refine j_iload_n (pc := 1) dJ13_copyOf_1 rfl ?_
  refine j_aload_n (pc := 2) dJ13_copyOf_2 rfl ?_
  refine j1_getC (pc := 3) hb hke.2.2.2.2 q508 (by decide) (Nat.le_of_ble_eq_true rfl) dJ13_copyOf_3 ?_
  refine j_room (cl' := 0 + 1) (sl' := 0 + N) (by omega) (by omega) ?_
  refine j_callS (pc := 6) (l1_copyOf3 h hke n f o8 b hb C hca hel o9 N hN hN2) (lw_S q531 q532 q60 q533) md_yJ13_copyOf_2 (by decide) (by decide) rfl (Nat.le_of_ble_eq_true rfl) dJ13_copyOf_6 (qR.k (fun r_6 s_6 q_6 => ?_))
  refine j_aret (pc := 9) rfl (by first | exact Or.inl ⟨_, rfl⟩ | exact Or.inr ⟨_, rfl⟩) (hQ _ _ ?_) dJ13_copyOf_9
  exact q_6

