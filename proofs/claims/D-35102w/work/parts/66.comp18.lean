set_option maxRecDepth 100000
/-- who is better than who: transitive -/
theorem hCmp_tr {v g : Nat → Int} (h : hOK v g) (o : Int) {k p b : Int} (hk : 0 ≤ k ∧ k ≤ 4) (hp : 0 ≤ p ∧ p ≤ 4) (hb : 0 ≤ b ∧ b ≤ 4) (h1 : hCmp v o g k p ≤ 0) (h2 : 0 < hCmp v o g b p) : hCmp v o g k b < 0 := by
  have dk := (hDiv_rng h o hk).1
  have dp := (hDiv_rng h o hp).1
  have db := (hDiv_rng h o hb).1
  unfold hCmp at h1 h2 ⊢
  generalize hDiv o g k = Dk at *
  generalize hDiv o g p = Dp at *
  generalize hDiv o g b = Db at *
  generalize v k.toNat = vk at *
  generalize v p.toNat = vp at *
  generalize v b.toNat = vb at *
  have e1 : vk * Dp * Db ≤ vp * Dk * Db := Int.mul_le_mul_of_nonneg_right (by omega) (by omega)
  have e2 : vp * Db * Dk < vb * Dp * Dk := Int.mul_lt_mul_of_pos_right (by omega) (by omega)
  have e3 : vp * Dk * Db = vp * Db * Dk := by rw [Int.mul_assoc, Int.mul_comm Dk Db, ← Int.mul_assoc]
  have e4 : vk * Dp * Db = vk * Db * Dp := by rw [Int.mul_assoc, Int.mul_comm Dp Db, ← Int.mul_assoc]
  have e5 : vb * Dp * Dk = vb * Dk * Dp := by rw [Int.mul_assoc, Int.mul_comm Dp Dk, ← Int.mul_assoc]
  have e6 : vk * Db * Dp < vb * Dk * Dp := by rw [← e4, ← e5]; exact Int.lt_of_le_of_lt e1 (by rw [e3]; exact e2)
  have e7 := Int.lt_of_mul_lt_mul_right e6 (by omega)
  omega
theorem hBT_max {v g : Nat → Int} (h : hOK v g) (o : Int) : ∀ k : Nat, k ≤ 5 → (∀ j : Nat, j < k → hCmp v o g j (hBT v o g k).1 ≤ 0) ∧ ∀ j : Nat, (j : Int) < (hBT v o g k).1 → hCmp v o g j (hBT v o g k).1 < 0
  | 0, _ => ⟨fun j hj => absurd hj (Nat.not_lt_zero _), fun j hj => by have h9 : (j : Int) < 0 := hj; omega⟩
  | k + 1, hk => by
    obtain ⟨i1, i2⟩ := hBT_max h o k (by omega)
    have hr := hBT_rng v o g k
    by_cases c1 : 0 < hCmp v o g k (hBT v o g k).1
    · have e : (hBT v o g (k + 1)).1 = (k : Int) := by show (if _ then _ else _ : Int × Int).1 = _; rw [if_pos c1]
      have key : ∀ j : Nat, j < k → hCmp v o g j (k : Int) < 0 := fun j hj => hCmp_tr h o (by omega) (by omega) (by omega) (i1 j hj) c1
      rw [e]
      refine ⟨fun j hj => ?_, fun j hj => key j (by omega)⟩
      by_cases ej : j = k
      · rw [ej, hCmp_self]; exact Int.le_refl _
      · exact Int.le_of_lt (key j (by omega))
    · have e : (hBT v o g (k + 1)).1 = (hBT v o g k).1 := by
        show (if _ then _ else if _ then _ else _ : Int × Int).1 = _
        rw [if_neg c1]; split <;> rfl
      rw [e]
      refine ⟨fun j hj => ?_, i2⟩
      by_cases ej : j = k
      · rw [ej]; omega
      · exact i1 j (by omega)
/-- how many are like the best -/
def alN (v : Nat → Int) (o : Int) (g : Nat → Int) (b : Int) : Nat → Int
  | 0 => 0
  | n + 1 => alN v o g b n + (if hCmp v o g n b = 0 then 1 else 0)
theorem alN_rng (v : Nat → Int) (o : Int) (g : Nat → Int) (b : Int) : ∀ n : Nat, 0 ≤ alN v o g b n ∧ alN v o g b n ≤ n
  | 0 => by unfold alN; omega
  | n + 1 => by unfold alN; have := alN_rng v o g b n; split <;> omega
theorem alN_hLi {v g : Nat → Int} (h : hOK v g) (o : Int) : ∀ n : Nat, n ≤ 5 → alN v o g (hBT v o g 5).1 n = hLi v o g (hBT v o g 5).1 n
  | 0, _ => rfl
  | n + 1, hn => by
    unfold alN hLi
    rw [alN_hLi h o n (by omega)]
    congr 1
    by_cases c : hCmp v o g n (hBT v o g 5).1 = 0
    · have hbn : (hBT v o g 5).1 ≤ (n : Int) := by
        rcases Int.lt_or_le (n : Int) (hBT v o g 5).1 with z | z
        · have := (hBT_max h o 5 (Nat.le_refl _)).2 n z; omega
        · exact z
      rw [if_pos c, if_pos ⟨hbn, c⟩]
    · rw [if_neg c, if_neg (fun z => c z.2)]
theorem alN_ties {v g : Nat → Int} (h : hOK v g) (o : Int) : alN v o g (hBT v o g 5).1 5 = (hBT v o g 5).2 := (alN_hLi h o 5 (Nat.le_refl _)).trans (hBT_5 v o g).2.2.2.2.symm
theorem hBT_succ1 (v : Nat → Int) (o : Int) (g : Nat → Int) (k : Nat) : (hBT v o g (k + 1)).1 = if 0 < hCmp v o g k (hBT v o g k).1 then (k : Int) else (hBT v o g k).1 := by
  show (if _ then _ else if _ then _ else _ : Int × Int).1 = _
  by_cases c1 : 0 < hCmp v o g k (hBT v o g k).1
  · rw [if_pos c1, if_pos c1]
  · rw [if_neg c1, if_neg c1]; split <;> rfl

theorem pn_X13 : plainName RX13 = true := by decide
theorem fa_X13_15_X13 : FA RX13 15 11 1 := ⟨RX13, TX13, 6, "BallotFoundry$House", rfl, in_X13, by decide, q259, Or.inl rfl⟩
set_option maxHeartbeats 4000000 in
theorem c_divisor {Γ : GG} {A : Nat → Prop} {K : KK} {l : Launch} (h : AL2) (q bv bs bg : Nat) (mn lt nu : Int) (v f : Nat → Int) (hq : h q = some (pO 11 [.ref bv, .ref bs, .ref bg, IV mn, IV lt, IV nu])) (hv : h bv = some (pA 0 5 v)) (hs : h bs = some (pA 0 5 f)) (hok : hOK v f) (p odd : Int) (hp : 0 ≤ p ∧ p ≤ 4) (ho : odd = 0 ∨ odd = 1) : Ct Γ A (Rep2 Γ A K) l yX13_divisor (ws_ yX13_divisor cX13_divisor 3 (some .int)) 1 0 0 [.ref q, IV p, IV odd] h (qI (fun (r : Int) (h' : AL2) => r = hDiv odd f p ∧ h' = h)) X0 := by
  refine Ct.ofJ (own := RX13) (nm := "divisor") (lo := [some (.ref q), some (IV p), some (IV odd)]) pn_X13 rfl rfl (List.forall_mem_cons.mpr ⟨rfl, (List.forall_mem_cons.mpr ⟨rfl, (List.forall_mem_cons.mpr ⟨rfl, (fun _ h => nomatch h)⟩)⟩)⟩) (Nat.le_of_ble_eq_true rfl) rfl ?_
  have hQ : ∀ (r : Int) (h' : AL2), (r = hDiv odd f p ∧ h' = h) → (qI (fun (r : Int) (h' : AL2) => r = hDiv odd f p ∧ h' = h)) (some (IV r)) h' := fun r h' h => ⟨r, rfl, h⟩
  generalize (qI (fun (r : Int) (h' : AL2) => r = hDiv odd f p ∧ h' = h)) = QP at hQ ⊢
  refine j_iload_n (pc := 0) dX13_divisor_0 rfl ?_
  refine j_if_eq (pc := 1) (tgt := 17) dX13_divisor_1 (by decide) (by omega) (fun c_1 => ?_) (fun c_1 => ?_)
  · refine j_aload_n (pc := 17) dX13_divisor_17 rfl ?_
    refine j2_get fa_X13_15_X13 hq rfl dX13_divisor_18 ?_
    refine j_iload_n (pc := 21) dX13_divisor_21 rfl ?_
    refine j2_iald (i := p) hs (by show 0 ≤ p ∧ p < ((5 : Nat) : Int); omega) dX13_divisor_22 ?_
    refine j_iconst (pc := 23) dX13_divisor_23 rfl ?_
    refine j_iadd (pc := 24) dX13_divisor_24 ?_
    refine j_iret (pc := 25) rfl (hQ _ _ ?_) dX13_divisor_25
    exact ⟨by unfold hDiv; split <;> first | rfl | omega, rfl⟩
  · refine j_iconst (pc := 4) dX13_divisor_4 rfl ?_
    refine j_aload_n (pc := 5) dX13_divisor_5 rfl ?_
    refine j2_get fa_X13_15_X13 hq rfl dX13_divisor_6 ?_
    refine j_iload_n (pc := 9) dX13_divisor_9 rfl ?_
    refine j2_iald (i := p) hs (by show 0 ≤ p ∧ p < ((5 : Nat) : Int); omega) dX13_divisor_10 ?_
    refine j_imul (pc := 11) dX13_divisor_11 ?_
    refine j_iconst (pc := 12) dX13_divisor_12 rfl ?_
    refine j_iadd (pc := 13) dX13_divisor_13 ?_
    refine j_goto (pc := 14) (tgt := 25) dX13_divisor_14 (by decide) ?_
    refine j_iret (pc := 25) rfl (hQ _ _ ?_) dX13_divisor_25
    exact ⟨by unfold hDiv; split <;> first | rfl | omega, rfl⟩

theorem fa_X13_9_X13 : FA RX13 9 11 0 := ⟨RX13, TX13, 6, "BallotFoundry$House", rfl, in_X13, by decide, q257, Or.inl rfl⟩
theorem md_yX13_divisor : MD yX13_divisor 2 := by decide +kernel
set_option maxHeartbeats 4000000 in
theorem c_compare {Γ : GG} {A : Nat → Prop} {K : KK} {l : Launch} (h : AL2) (q bv bs bg : Nat) (mn lt nu : Int) (v f : Nat → Int) (hq : h q = some (pO 11 [.ref bv, .ref bs, .ref bg, IV mn, IV lt, IV nu])) (hv : h bv = some (pA 0 5 v)) (hs : h bs = some (pA 0 5 f)) (hok : hOK v f) (a b odd : Int) (ha : 0 ≤ a ∧ a ≤ 4) (hb : 0 ≤ b ∧ b ≤ 4) (ho : odd = 0 ∨ odd = 1) : Ct Γ A (Rep2 Γ A K) l yX13_compare (ws_ yX13_compare cX13_compare 4 (some .int)) 2 0 0 [.ref q, IV a, IV b, IV odd] h (qI (fun (r : Int) (h' : AL2) => r = hCmp v odd f a b ∧ h' = h)) X0 := by
  refine Ct.ofJ (own := RX13) (nm := "compare") (lo := [some (.ref q), some (IV a), some (IV b), some (IV odd)]) pn_X13 rfl rfl (List.forall_mem_cons.mpr ⟨rfl, (List.forall_mem_cons.mpr ⟨rfl, (List.forall_mem_cons.mpr ⟨rfl, (List.forall_mem_cons.mpr ⟨rfl, (fun _ h => nomatch h)⟩)⟩)⟩)⟩) (Nat.le_of_ble_eq_true rfl) rfl ?_
  have hQ : ∀ (r : Int) (h' : AL2), (r = hCmp v odd f a b ∧ h' = h) → (qI (fun (r : Int) (h' : AL2) => r = hCmp v odd f a b ∧ h' = h)) (some (IV r)) h' := fun r h' h => ⟨r, rfl, h⟩
  generalize (qI (fun (r : Int) (h' : AL2) => r = hCmp v odd f a b ∧ h' = h)) = QP at hQ ⊢
  refine j_aload_n (pc := 0) dX13_compare_0 rfl ?_
  refine j2_get fa_X13_9_X13 hq rfl dX13_compare_1 ?_
  refine j_iload_n (pc := 4) dX13_compare_4 rfl ?_
  refine j2_iald (i := a) hv (by show 0 ≤ a ∧ a < ((5 : Nat) : Int); omega) dX13_compare_5 ?_
  refine j_aload_n (pc := 6) dX13_compare_6 rfl ?_
  refine j_iload_n (pc := 7) dX13_compare_7 rfl ?_
  refine j_iload_n (pc := 8) dX13_compare_8 rfl ?_
  refine j_callV (pc := 9) (c_divisor h q bv bs bg mn lt nu v f hq hv hs hok b odd (by omega) ho) (lw_V q248 q250 qs5 q77 q251) rfl md_yX13_divisor (RC.of2 hq rfl) (by decide) (by decide) rfl (Nat.le_of_ble_eq_true rfl) dX13_compare_9 (qI.k (fun r_9 s_9 q_9 => ?_))
  obtain ⟨e1q_9, e2q_9⟩ := q_9
  subst r_9
  subst s_9
  refine j_imul (pc := 12) dX13_compare_12 ?_
  refine j_aload_n (pc := 13) dX13_compare_13 rfl ?_
  refine j2_get fa_X13_9_X13 hq rfl dX13_compare_14 ?_
  refine j_iload_n (pc := 17) dX13_compare_17 rfl ?_
  refine j2_iald (i := b) hv (by show 0 ≤ b ∧ b < ((5 : Nat) : Int); omega) dX13_compare_18 ?_
  refine j_aload_n (pc := 19) dX13_compare_19 rfl ?_
  refine j_iload_n (pc := 20) dX13_compare_20 rfl ?_
  refine j_iload_n (pc := 21) dX13_compare_21 rfl ?_
  refine j_callV (pc := 22) (c_divisor h q bv bs bg mn lt nu v f hq hv hs hok a odd (by omega) ho) (lw_V q248 q250 qs5 q77 q251) rfl md_yX13_divisor (RC.of2 hq rfl) (by decide) (by decide) rfl (Nat.le_of_ble_eq_true rfl) dX13_compare_22 (qI.k (fun r_22 s_22 q_22 => ?_))
  obtain ⟨e1q_22, e2q_22⟩ := q_22
  subst r_22
  subst s_22
  refine j_imul (pc := 25) dX13_compare_25 ?_
  refine j_isub (pc := 26) dX13_compare_26 ?_
  refine j_iret (pc := 27) rfl (hQ _ _ ?_) dX13_compare_27
  exact ⟨rfl, rfl⟩

theorem fa_X13_21_X13 : FA RX13 21 11 5 := ⟨RX13, TX13, 6, "BallotFoundry$House", rfl, in_X13, by decide, q267, Or.inl rfl⟩
theorem fp_X13_21_X13 : FP RX13 21 11 5 (.int) false := ⟨RX13, TX13, 6, "BallotFoundry$House", tyX13, rfl, in_X13, by decide, q267, Or.inl rfl, tyX13_ok, nmX13, rfl, rfl, fun h => nomatch h⟩
theorem fa_X13_93_X13 : FA RX13 93 11 4 := ⟨RX13, TX13, 6, "BallotFoundry$House", rfl, in_X13, by decide, q265, Or.inl rfl⟩
theorem fp_X13_93_X13 : FP RX13 93 11 4 (.int) false := ⟨RX13, TX13, 6, "BallotFoundry$House", tyX13, rfl, in_X13, by decide, q265, Or.inl rfl, tyX13_ok, nmX13, rfl, rfl, fun h => nomatch h⟩
set_option maxHeartbeats 4000000 in
theorem c_lot {Γ : GG} {A : Nat → Prop} {K : KK} {l : Launch} (h : AL2) (q bv bs bg : Nat) (mn lt nu : Int) (v f : Nat → Int) (hq : h q = some (pO 11 [.ref bv, .ref bs, .ref bg, IV mn, IV lt, IV nu])) (hv : h bv = some (pA 0 5 v)) (hs : h bs = some (pA 0 5 f)) (hok : hOK v f) (al : Int) (hal9 : 2 ≤ al ∧ al ≤ 5) (hnu : 0 ≤ nu ∧ nu ≤ 65535) : Ct Γ A (Rep2 Γ A K) l yX13_lot (ws_ yX13_lot cX13_lot 2 (some .int)) 1 0 0 [.ref q, IV al] h (qI (fun (r : Int) (h' : AL2) => r = (nu * 1103 + 12345) % 65536 % al ∧ h' = upH h q (pO 11 [.ref bv, .ref bs, .ref bg, IV mn, IV (lt + 1), IV ((nu * 1103 + 12345) % 65536)]))) X0 := by
  refine Ct.ofJ (own := RX13) (nm := "lot") (lo := [some (.ref q), some (IV al)]) pn_X13 rfl rfl (List.forall_mem_cons.mpr ⟨rfl, (List.forall_mem_cons.mpr ⟨rfl, (fun _ h => nomatch h)⟩)⟩) (Nat.le_of_ble_eq_true rfl) rfl ?_
  have hQ : ∀ (r : Int) (h' : AL2), (r = (nu * 1103 + 12345) % 65536 % al ∧ h' = upH h q (pO 11 [.ref bv, .ref bs, .ref bg, IV mn, IV (lt + 1), IV ((nu * 1103 + 12345) % 65536)])) → (qI (fun (r : Int) (h' : AL2) => r = (nu * 1103 + 12345) % 65536 % al ∧ h' = upH h q (pO 11 [.ref bv, .ref bs, .ref bg, IV mn, IV (lt + 1), IV ((nu * 1103 + 12345) % 65536)]))) (some (IV r)) h' := fun r h' h => ⟨r, rfl, h⟩
  generalize (qI (fun (r : Int) (h' : AL2) => r = (nu * 1103 + 12345) % 65536 % al ∧ h' = upH h q (pO 11 [.ref bv, .ref bs, .ref bg, IV mn, IV (lt + 1), IV ((nu * 1103 + 12345) % 65536)]))) = QP at hQ ⊢
  refine j_aload_n (pc := 0) dX13_lot_0 rfl ?_
  refine j_aload_n (pc := 1) dX13_lot_1 rfl ?_
  refine j2_get fa_X13_21_X13 hq rfl dX13_lot_2 ?_
  refine j_sipush (pc := 5) (a := 1103) dX13_lot_5 (by decide) ?_
  refine j_imul (pc := 8) dX13_lot_8 ?_
  refine j_sipush (pc := 9) (a := 12345) dX13_lot_9 (by decide) ?_
  refine j_iadd (pc := 12) dX13_lot_12 ?_
  refine j_ldc (pc := 13) (a := 65536) q256 dX13_lot_13 (by decide) ?_
  have hm9 : 0 ≤ nu * 1103 + 12345 ∧ nu * 1103 + 12345 < 2147483648 := by omega
  refine j_irem (pc := 15) dX13_lot_15 (by omega) (by omega) ?_
  refine j_nameI (fun x_15 ex_15 => ?_)
  refine j2_put fp_X13_21_X13 hq (by decide) (Nat.le_of_ble_eq_true rfl) rfl rfl dX13_lot_16 (fun h_16 e_16 => ?_)
  have z_1 : h_16 bv = some (pA 0 5 v) := by rw [e_16]; exact upH_k hv hq (by intro z; cases z)
  have z_2 : h_16 bs = some (pA 0 5 f) := by rw [e_16]; exact upH_k hs hq (by intro z; cases z)
  have z_3 : h_16 q = some (pO 11 [.ref bv, .ref bs, .ref bg, IV mn, IV lt, IV x_15]) := by rw [e_16]; exact upH_self _ _ _
  refine j_aload_n (pc := 19) dX13_lot_19 rfl ?_
  refine j_dup (pc := 20) dX13_lot_20 rfl ?_
  refine j2_get fa_X13_93_X13 z_3 rfl dX13_lot_21 ?_
  refine j_iconst (pc := 24) dX13_lot_24 rfl ?_
  refine j_iadd (pc := 25) dX13_lot_25 ?_
  refine j2_put fp_X13_93_X13 z_3 (by decide) (Nat.le_of_ble_eq_true rfl) rfl rfl dX13_lot_26 (fun h_26 e_26 => ?_)
  have z_4 : h_26 bv = some (pA 0 5 v) := by rw [e_26]; exact upH_k z_1 z_3 (by intro z; cases z)
  have z_5 : h_26 bs = some (pA 0 5 f) := by rw [e_26]; exact upH_k z_2 z_3 (by intro z; cases z)
  have z_6 : h_26 q = some (pO 11 [.ref bv, .ref bs, .ref bg, IV mn, IV (lt + 1), IV x_15]) := by rw [e_26]; exact upH_self _ _ _
  refine j_aload_n (pc := 29) dX13_lot_29 rfl ?_
  refine j2_get fa_X13_21_X13 z_6 rfl dX13_lot_30 ?_
  refine j_iload_n (pc := 33) dX13_lot_33 rfl ?_
  refine j_irem (pc := 34) dX13_lot_34 (by omega) (by omega) ?_
  refine j_iret (pc := 35) rfl (hQ _ _ ?_) dX13_lot_35
  exact ⟨by rw [ex_15], by rw [e_26, e_16, upH_upH, ex_15]; rfl⟩

theorem md_yX13_compare : MD yX13_compare 3 := by decide +kernel
theorem md_yX13_lot : MD yX13_lot 1 := by decide +kernel
set_option maxHeartbeats 4000000 in
theorem c_next {Γ : GG} {A : Nat → Prop} {K : KK} {l : Launch} (h : AL2) (q bv bs bg : Nat) (mn lt nu : Int) (v f : Nat → Int) (hq : h q = some (pO 11 [.ref bv, .ref bs, .ref bg, IV mn, IV lt, IV nu])) (hv : h bv = some (pA 0 5 v)) (hs : h bs = some (pA 0 5 f)) (hok : hOK v f) (odd : Int) (ho : odd = 0 ∨ odd = 1) (hnu : 0 ≤ nu ∧ nu ≤ 65535) (hvs : bv ≠ bs) : Ct Γ A (Rep2 Γ A K) l yX13_next (ws_ yX13_next cX13_next 6 (some .int)) 4 0 0 [.ref q, IV odd] h (qI (fun (r : Int) (h' : AL2) => r = hNx v odd (f, f, lt, nu) ∧ h' = upH h q (pO 11 [.ref bv, .ref bs, .ref bg, IV mn, IV (lt + (if 1 < (hBT v odd f 5).2 then 1 else 0)), IV (hLk v odd (f, f, lt, nu))]))) X0 := by
  refine Ct.ofJ (own := RX13) (nm := "next") (lo := [some (.ref q), some (IV odd), none, none, none, none]) pn_X13 rfl rfl (List.forall_mem_cons.mpr ⟨rfl, (List.forall_mem_cons.mpr ⟨rfl, (fun _ h => nomatch h)⟩)⟩) (Nat.le_of_ble_eq_true rfl) rfl ?_
  have hQ : ∀ (r : Int) (h' : AL2), (r = hNx v odd (f, f, lt, nu) ∧ h' = upH h q (pO 11 [.ref bv, .ref bs, .ref bg, IV mn, IV (lt + (if 1 < (hBT v odd f 5).2 then 1 else 0)), IV (hLk v odd (f, f, lt, nu))])) → (qI (fun (r : Int) (h' : AL2) => r = hNx v odd (f, f, lt, nu) ∧ h' = upH h q (pO 11 [.ref bv, .ref bs, .ref bg, IV mn, IV (lt + (if 1 < (hBT v odd f 5).2 then 1 else 0)), IV (hLk v odd (f, f, lt, nu))]))) (some (IV r)) h' := fun r h' h => ⟨r, rfl, h⟩
  generalize (qI (fun (r : Int) (h' : AL2) => r = hNx v odd (f, f, lt, nu) ∧ h' = upH h q (pO 11 [.ref bv, .ref bs, .ref bg, IV mn, IV (lt + (if 1 < (hBT v odd f 5).2 then 1 else 0)), IV (hLk v odd (f, f, lt, nu))]))) = QP at hQ ⊢
  refine j_iconst (pc := 0) dX13_next_0 rfl ?_
  refine j_istore_n (pc := 1) dX13_next_1 (by decide) (lo' := [some (.ref q), some (IV odd), some (IV 0), none, none, none]) rfl ?_
  refine j_iconst (pc := 2) dX13_next_2 rfl ?_
  refine j_istore_n (pc := 3) dX13_next_3 (by decide) (lo' := [some (.ref q), some (IV odd), some (IV 0), some (IV 1), none, none]) rfl ?_
  have hl_4 : ∀ (fu : Nat) (k : Nat) (b : Int), 5 - k < fu → 1 ≤ k ∧ k ≤ 5 → b = (hBT v odd f k).1 → J Γ A (Rep2 Γ A K) l RX13 "next" cX13_next 6 (some .int) [] 4 0 0 QP X0 0 0 h 4 [some (.ref q), some (IV odd), some (IV b), some (IV (k : Int)), none, none] [] := by
    intro fu
    induction fu with
    | zero => intro k b hm; exact absurd hm (Nat.not_lt_zero _)
    | succ fu ih_4 =>
      intro k b hm hk hbb
      have hbr := hBT_rng v odd f k
      rw [← hbb] at hbr
      have hbr1 := hbr.1
      have hbr2 : b < (k : Int) ∨ b = 0 := hbr.2.1
      refine j_iload_n (pc := 4) dX13_next_4 rfl ?_
      refine j_iconst (pc := 5) dX13_next_5 rfl ?_
      refine j_icmp_ge (pc := 6) (tgt := 31) dX13_next_6 (by decide) (by omega) (by decide) (fun c_6 => ?_) (fun c_6 => ?_)
      · have e5 : k = 5 := by omega
        rw [e5] at hbb
        have hb5 := hBT_5 v odd f
        have hb6 : 0 ≤ b ∧ b ≤ 4 := by rw [hbb]; exact ⟨hb5.1, hb5.2.1⟩
        refine j_iconst (pc := 31) dX13_next_31 rfl ?_
        refine j_istore_n (pc := 32) dX13_next_32 (by decide) (lo' := [some (.ref q), some (IV odd), some (IV b), some (IV 0), none, none]) rfl ?_
        refine j_iconst (pc := 33) dX13_next_33 rfl ?_
        refine j_istore (pc := 34) dX13_next_34 (by decide) (lo' := [some (.ref q), some (IV odd), some (IV b), some (IV 0), some (IV 0), none]) rfl ?_
        have hl_36 : ∀ (fu : Nat) (k : Nat) (al : Int), 5 - k < fu → k ≤ 5 → al = alN v odd f b k → J Γ A (Rep2 Γ A K) l RX13 "next" cX13_next 6 (some .int) [] 4 0 0 QP X0 0 0 h 36 [some (.ref q), some (IV odd), some (IV b), some (IV al), some (IV (k : Int)), none] [] := by
          intro fu
          induction fu with
          | zero => intro k al hm; exact absurd hm (Nat.not_lt_zero _)
          | succ fu ih_36 =>
            intro k al hm hk2 hal
            refine j_iload (pc := 36) dX13_next_36 rfl ?_
            refine j_iconst (pc := 38) dX13_next_38 rfl ?_
            refine j_icmp_ge (pc := 39) (tgt := 67) dX13_next_39 (by decide) (by omega) (by decide) (fun c_39 => ?_) (fun c_39 => ?_)
            · have htie : al = (hBT v odd f 5).2 := by rw [hal, show k = 5 by omega, hbb]; exact alN_ties hok odd
              refine j_iload_n (pc := 67) dX13_next_67 rfl ?_
              refine j_iconst (pc := 68) dX13_next_68 rfl ?_
              refine j_icmp_le (pc := 69) (tgt := 80) dX13_next_69 (by decide) (by omega) (by decide) (fun c_69 => ?_) (fun c_69 => ?_)
              · refine j_iconst (pc := 80) dX13_next_80 rfl ?_
                have hpl0 : hPl v odd (f, f, lt, nu) = 0 := by show (if 1 < (hBT v odd f 5).2 then (if 1 < (hBT v odd f 5).2 then (nu * 1103 + 12345) % 65536 else nu) % (hBT v odd f 5).2 else 0) = _; exact if_neg (by omega)
                obtain ⟨P, hP0⟩ : ∃ P, P = hNx v odd (f, f, lt, nu) := ⟨_, rfl⟩
                have hP1 : hPk v odd f b (5 - b.toNat) (0) = P := by rw [hP0, ← hpl0, hbb]; rfl
                have hL5 : hLi v odd f b 5 = al := by rw [htie, hbb]; exact (hBT_5 v odd f).2.2.2.2.symm
                have ht1 : 1 ≤ al := by rw [htie]; exact (hBT_5 v odd f).2.2.1
                refine j_istore (pc := 81) dX13_next_81 (by decide) (lo' := [some (.ref q), some (IV odd), some (IV b), some (IV al), some (IV 0), none]) rfl ?_
                refine j_iload_n (pc := 83) dX13_next_83 rfl ?_
                refine j_eqI ((b.toNat : Nat) : Int) (by omega) ?_
                refine j_istore (pc := 84) dX13_next_84 (by decide) (lo' := [some (.ref q), some (IV odd), some (IV b), some (IV al), some (IV 0), some (IV (b.toNat : Int))]) rfl ?_
                have hl_86 : ∀ (fu : Nat) (fu9 : Nat) (p9 : Nat) (pl : Int), fu9 < fu → p9 + fu9 = 5 → b ≤ p9 → 0 ≤ pl ∧ pl < hLi v odd f b 5 - hLi v odd f b p9 → hPk v odd f b fu9 pl = P → J Γ A (Rep2 Γ A K) l RX13 "next" cX13_next 6 (some .int) [] 4 0 0 QP X0 0 0 h 86 [some (.ref q), some (IV odd), some (IV b), some (IV al), some (IV pl), some (IV (p9 : Int))] [] := by
                  intro fu
                  induction fu with
                  | zero => intro fu9 p9 pl hm; exact absurd hm (Nat.not_lt_zero _)
                  | succ fu ih_86 =>
                    intro fu9 p9 pl hm hfq hqb hpl hP
                    have hq7 := hLi_le v odd f b 5
                    have hq8 := hLi_le v odd f b p9
                    have hp4 : p9 ≤ 4 := by rcases Nat.lt_or_ge p9 5 with h9 | h9; omega; (rw [show p9 = 5 by omega] at hpl; omega)
                    obtain ⟨fu9, rfl⟩ : ∃ f9, fu9 = f9 + 1 := ⟨fu9 - 1, by omega⟩
                    refine j_aload_n (pc := 86) dX13_next_86 rfl ?_
                    refine j_iload (pc := 87) dX13_next_87 rfl ?_
                    refine j_iload_n (pc := 89) dX13_next_89 rfl ?_
                    refine j_iload_n (pc := 90) dX13_next_90 rfl ?_
                    refine j_callV (pc := 91) (c_compare h q bv bs bg mn lt nu v f hq hv hs hok (p9 : Int) b odd (by omega) (by omega) ho) (lw_V q244 q246 qs4 q77 q247) rfl md_yX13_compare (RC.of2 hq rfl) (by decide) (by decide) rfl (Nat.le_of_ble_eq_true rfl) dX13_next_91 (qI.k (fun r_91 s_91 q_91 => ?_))
                    obtain ⟨e1q_91, e2q_91⟩ := q_91
                    subst r_91
                    subst s_91
                    have rb_91 := hCmp_rng hok odd (a := (p9 : Int)) (b := b) (by omega) (by omega)
                    refine j_if_ne (pc := 94) (tgt := 108) dX13_next_94 (by decide) (by omega) (fun c_94 => ?_) (fun c_94 => ?_)
                    · refine j_iinc (pc := 108) dX13_next_108 rfl (by decide) (lo' := [some (.ref q), some (IV odd), some (IV b), some (IV al), some (IV pl), some (IV ((p9 : Int) + 1))]) rfl ?_
                      refine j_goto (pc := 111) (tgt := 86) dX13_next_111 (by decide) ?_
                      have hst := hPk_go hP hfq hqb hpl (pl' := pl) (by omega)
                      exact ih_86 fu9 (p9 + 1) pl (by omega) (by omega) (by omega) hst.2 hst.1
                    · refine j_iload (pc := 97) dX13_next_97 rfl ?_
                      refine j_if_ne (pc := 99) (tgt := 105) dX13_next_99 (by decide) (by omega) (fun c_99 => ?_) (fun c_99 => ?_)
                      · refine j_iinc (pc := 105) dX13_next_105 rfl (by decide) (lo' := [some (.ref q), some (IV odd), some (IV b), some (IV al), some (IV (pl + (-1))), some (IV (p9 : Int))]) rfl ?_
                        refine j_iinc (pc := 108) dX13_next_108 rfl (by decide) (lo' := [some (.ref q), some (IV odd), some (IV b), some (IV al), some (IV (pl + (-1))), some (IV ((p9 : Int) + 1))]) rfl ?_
                        refine j_goto (pc := 111) (tgt := 86) dX13_next_111 (by decide) ?_
                        have hst := hPk_go hP hfq hqb hpl (pl' := pl + (-1)) (by omega)
                        exact ih_86 fu9 (p9 + 1) (pl + (-1)) (by omega) (by omega) (by omega) hst.2 hst.1
                      · refine j_iload (pc := 102) dX13_next_102 rfl ?_
                        refine j_iret (pc := 104) rfl (hQ _ _ ?_) dX13_next_104
                        have hPq := hPk_stop hP hfq (by omega) (by omega)
                        exact ⟨by rw [← hP0, hPq], by rw [if_neg (by omega), show hLk v odd (f, f, lt, nu) = nu from if_neg (by show ¬ 1 < (hBT v odd f 5).2; omega), Int.add_zero]; exact (upH_same hq).symm⟩
                exact hl_86 _ (5 - b.toNat) b.toNat 0 (Nat.lt_succ_self _) (by omega) (by omega) (by rw [hLi_0 _ _ _ b b.toNat (by omega)]; omega) hP1
              · refine j_aload_n (pc := 72) dX13_next_72 rfl ?_
                refine j_iload_n (pc := 73) dX13_next_73 rfl ?_
                refine j_callV (pc := 74) (c_lot h q bv bs bg mn lt nu v f hq hv hs hok al (by omega) hnu) (lw_V q252 q254 qs6 q77 q255) rfl md_yX13_lot (RC.of2 hq rfl) (by decide) (by decide) rfl (Nat.le_of_ble_eq_true rfl) dX13_next_74 (qI.k (fun r_74 s_74 q_74 => ?_))
                obtain ⟨e1q_74, e2q_74⟩ := q_74
                subst r_74
                have z_1 : s_74 bv = some (pA 0 5 v) := by rw [e2q_74]; exact upH_k hv hq (by intro z; cases z)
                have z_2 : s_74 bs = some (pA 0 5 f) := by rw [e2q_74]; exact upH_k hs hq (by intro z; cases z)
                have z_3 : s_74 q = some (pO 11 [.ref bv, .ref bs, .ref bg, IV mn, IV (lt + 1), IV ((nu * 1103 + 12345) % 65536)]) := by rw [e2q_74]; exact upH_self _ _ _
                refine j_goto (pc := 77) (tgt := 81) dX13_next_77 (by decide) ?_
                have hpl0 : hPl v odd (f, f, lt, nu) = (nu * 1103 + 12345) % 65536 % al := by show (if 1 < (hBT v odd f 5).2 then (if 1 < (hBT v odd f 5).2 then (nu * 1103 + 12345) % 65536 else nu) % (hBT v odd f 5).2 else 0) = _; rw [if_pos (by omega), if_pos (by omega), htie]
                obtain ⟨P, hP0⟩ : ∃ P, P = hNx v odd (f, f, lt, nu) := ⟨_, rfl⟩
                have hP1 : hPk v odd f b (5 - b.toNat) ((nu * 1103 + 12345) % 65536 % al) = P := by rw [hP0, ← hpl0, hbb]; rfl
                have hL5 : hLi v odd f b 5 = al := by rw [htie, hbb]; exact (hBT_5 v odd f).2.2.2.2.symm
                have ht1 : 1 ≤ al := by rw [htie]; exact (hBT_5 v odd f).2.2.1
                have hpr := Int.emod_nonneg ((nu * 1103 + 12345) % 65536) (b := al) (by omega)
                have hpr2 := Int.emod_lt_of_pos ((nu * 1103 + 12345) % 65536) (b := al) (by omega)
                refine j_istore (pc := 81) dX13_next_81 (by decide) (lo' := [some (.ref q), some (IV odd), some (IV b), some (IV al), some (IV ((nu * 1103 + 12345) % 65536 % al)), none]) rfl ?_
                refine j_iload_n (pc := 83) dX13_next_83 rfl ?_
                refine j_eqI ((b.toNat : Nat) : Int) (by omega) ?_
                refine j_istore (pc := 84) dX13_next_84 (by decide) (lo' := [some (.ref q), some (IV odd), some (IV b), some (IV al), some (IV ((nu * 1103 + 12345) % 65536 % al)), some (IV (b.toNat : Int))]) rfl ?_
                have hl_86 : ∀ (fu : Nat) (fu9 : Nat) (p9 : Nat) (pl : Int), fu9 < fu → p9 + fu9 = 5 → b ≤ p9 → 0 ≤ pl ∧ pl < hLi v odd f b 5 - hLi v odd f b p9 → hPk v odd f b fu9 pl = P → J Γ A (Rep2 Γ A K) l RX13 "next" cX13_next 6 (some .int) [] 4 0 0 QP X0 0 0 s_74 86 [some (.ref q), some (IV odd), some (IV b), some (IV al), some (IV pl), some (IV (p9 : Int))] [] := by
                  intro fu
                  induction fu with
                  | zero => intro fu9 p9 pl hm; exact absurd hm (Nat.not_lt_zero _)
                  | succ fu ih_86 =>
                    intro fu9 p9 pl hm hfq hqb hpl hP
                    have hq7 := hLi_le v odd f b 5
                    have hq8 := hLi_le v odd f b p9
                    have hp4 : p9 ≤ 4 := by rcases Nat.lt_or_ge p9 5 with h9 | h9; omega; (rw [show p9 = 5 by omega] at hpl; omega)
                    obtain ⟨fu9, rfl⟩ : ∃ f9, fu9 = f9 + 1 := ⟨fu9 - 1, by omega⟩
                    refine j_aload_n (pc := 86) dX13_next_86 rfl ?_
                    refine j_iload (pc := 87) dX13_next_87 rfl ?_
                    refine j_iload_n (pc := 89) dX13_next_89 rfl ?_
                    refine j_iload_n (pc := 90) dX13_next_90 rfl ?_
                    refine j_callV (pc := 91) (c_compare s_74 q bv bs bg mn (lt + 1) ((nu * 1103 + 12345) % 65536) v f z_3 z_1 z_2 hok (p9 : Int) b odd (by omega) (by omega) ho) (lw_V q244 q246 qs4 q77 q247) rfl md_yX13_compare (RC.of2 z_3 rfl) (by decide) (by decide) rfl (Nat.le_of_ble_eq_true rfl) dX13_next_91 (qI.k (fun r_91_1 s_91_1 q_91_1 => ?_))
                    obtain ⟨e1q_91_1, e2q_91_1⟩ := q_91_1
                    subst r_91_1
                    subst s_91_1
                    have rb_91 := hCmp_rng hok odd (a := (p9 : Int)) (b := b) (by omega) (by omega)
                    refine j_if_ne (pc := 94) (tgt := 108) dX13_next_94 (by decide) (by omega) (fun c_94_1 => ?_) (fun c_94_1 => ?_)
                    · refine j_iinc (pc := 108) dX13_next_108 rfl (by decide) (lo' := [some (.ref q), some (IV odd), some (IV b), some (IV al), some (IV pl), some (IV ((p9 : Int) + 1))]) rfl ?_
                      refine j_goto (pc := 111) (tgt := 86) dX13_next_111 (by decide) ?_
                      have hst := hPk_go hP hfq hqb hpl (pl' := pl) (by omega)
                      exact ih_86 fu9 (p9 + 1) pl (by omega) (by omega) (by omega) hst.2 hst.1
                    · refine j_iload (pc := 97) dX13_next_97 rfl ?_
                      refine j_if_ne (pc := 99) (tgt := 105) dX13_next_99 (by decide) (by omega) (fun c_99_1 => ?_) (fun c_99_1 => ?_)
                      · refine j_iinc (pc := 105) dX13_next_105 rfl (by decide) (lo' := [some (.ref q), some (IV odd), some (IV b), some (IV al), some (IV (pl + (-1))), some (IV (p9 : Int))]) rfl ?_
                        refine j_iinc (pc := 108) dX13_next_108 rfl (by decide) (lo' := [some (.ref q), some (IV odd), some (IV b), some (IV al), some (IV (pl + (-1))), some (IV ((p9 : Int) + 1))]) rfl ?_
                        refine j_goto (pc := 111) (tgt := 86) dX13_next_111 (by decide) ?_
                        have hst := hPk_go hP hfq hqb hpl (pl' := pl + (-1)) (by omega)
                        exact ih_86 fu9 (p9 + 1) (pl + (-1)) (by omega) (by omega) (by omega) hst.2 hst.1
                      · refine j_iload (pc := 102) dX13_next_102 rfl ?_
                        refine j_iret (pc := 104) rfl (hQ _ _ ?_) dX13_next_104
                        have hPq := hPk_stop hP hfq (by omega) (by omega)
                        exact ⟨by rw [← hP0, hPq], by rw [e2q_74, if_pos (by omega), show hLk v odd (f, f, lt, nu) = (nu * 1103 + 12345) % 65536 from if_pos (by show 1 < (hBT v odd f 5).2; omega)]⟩
                exact hl_86 _ (5 - b.toNat) b.toNat ((nu * 1103 + 12345) % 65536 % al) (Nat.lt_succ_self _) (by omega) (by omega) (by rw [hLi_0 _ _ _ b b.toNat (by omega)]; omega) hP1
            · refine j_iload_n (pc := 42) dX13_next_42 rfl ?_
              refine j_aload_n (pc := 43) dX13_next_43 rfl ?_
              refine j_iload (pc := 44) dX13_next_44 rfl ?_
              refine j_iload_n (pc := 46) dX13_next_46 rfl ?_
              refine j_iload_n (pc := 47) dX13_next_47 rfl ?_
              refine j_callV (pc := 48) (c_compare h q bv bs bg mn lt nu v f hq hv hs hok (k : Int) b odd (by omega) (by omega) ho) (lw_V q244 q246 qs4 q77 q247) rfl md_yX13_compare (RC.of2 hq rfl) (by decide) (by decide) rfl (Nat.le_of_ble_eq_true rfl) dX13_next_48 (qI.k (fun r_48 s_48 q_48 => ?_))
              obtain ⟨e1q_48, e2q_48⟩ := q_48
              subst r_48
              subst s_48
              have rb_48 := hCmp_rng hok odd (a := (k : Int)) (b := b) (by omega) (by omega)
              refine j_if_ne (pc := 51) (tgt := 58) dX13_next_51 (by decide) (by omega) (fun c_51 => ?_) (fun c_51 => ?_)
              · refine j_iconst (pc := 58) dX13_next_58 rfl ?_
                refine j_iadd (pc := 59) dX13_next_59 ?_
                refine j_istore_n (pc := 60) dX13_next_60 (by decide) (lo' := [some (.ref q), some (IV odd), some (IV b), some (IV (al + 0)), some (IV (k : Int)), none]) rfl ?_
                refine j_iinc (pc := 61) dX13_next_61 rfl (by decide) (lo' := [some (.ref q), some (IV odd), some (IV b), some (IV (al + 0)), some (IV ((k : Int) + 1)), none]) rfl ?_
                refine j_goto (pc := 64) (tgt := 36) dX13_next_64 (by decide) ?_
                exact ih_36 (k + 1) (al + 0) (by omega) (by omega) (by show _ = alN v odd f b k + (if hCmp v odd f k b = 0 then 1 else 0); rw [← hal]; split <;> omega)
              · refine j_iconst (pc := 54) dX13_next_54 rfl ?_
                refine j_goto (pc := 55) (tgt := 59) dX13_next_55 (by decide) ?_
                refine j_iadd (pc := 59) dX13_next_59 ?_
                refine j_istore_n (pc := 60) dX13_next_60 (by decide) (lo' := [some (.ref q), some (IV odd), some (IV b), some (IV (al + 1)), some (IV (k : Int)), none]) rfl ?_
                refine j_iinc (pc := 61) dX13_next_61 rfl (by decide) (lo' := [some (.ref q), some (IV odd), some (IV b), some (IV (al + 1)), some (IV ((k : Int) + 1)), none]) rfl ?_
                refine j_goto (pc := 64) (tgt := 36) dX13_next_64 (by decide) ?_
                exact ih_36 (k + 1) (al + 1) (by omega) (by omega) (by show _ = alN v odd f b k + (if hCmp v odd f k b = 0 then 1 else 0); rw [← hal]; split <;> omega)
        exact hl_36 _ 0 0 (Nat.lt_succ_self _) (by omega) rfl
      · refine j_aload_n (pc := 9) dX13_next_9 rfl ?_
        refine j_iload_n (pc := 10) dX13_next_10 rfl ?_
        refine j_iload_n (pc := 11) dX13_next_11 rfl ?_
        refine j_iload_n (pc := 12) dX13_next_12 rfl ?_
        refine j_callV (pc := 13) (c_compare h q bv bs bg mn lt nu v f hq hv hs hok (k : Int) b odd (by omega) (by omega) ho) (lw_V q244 q246 qs4 q77 q247) rfl md_yX13_compare (RC.of2 hq rfl) (by decide) (by decide) rfl (Nat.le_of_ble_eq_true rfl) dX13_next_13 (qI.k (fun r_13 s_13 q_13 => ?_))
        obtain ⟨e1q_13, e2q_13⟩ := q_13
        subst r_13
        subst s_13
        have rb_13 := hCmp_rng hok odd (a := (k : Int)) (b := b) (by omega) (by omega)
        refine j_if_le (pc := 16) (tgt := 23) dX13_next_16 (by decide) (by omega) (fun c_16 => ?_) (fun c_16 => ?_)
        · refine j_iload_n (pc := 23) dX13_next_23 rfl ?_
          refine j_istore_n (pc := 24) dX13_next_24 (by decide) (lo' := [some (.ref q), some (IV odd), some (IV b), some (IV (k : Int)), none, none]) rfl ?_
          refine j_iinc (pc := 25) dX13_next_25 rfl (by decide) (lo' := [some (.ref q), some (IV odd), some (IV b), some (IV ((k : Int) + 1)), none, none]) rfl ?_
          refine j_goto (pc := 28) (tgt := 4) dX13_next_28 (by decide) ?_
          exact ih_4 (k + 1) b (by omega) (by omega) (by rw [hBT_succ1, ← hbb]; split <;> first | rfl | omega)
        · refine j_iload_n (pc := 19) dX13_next_19 rfl ?_
          refine j_goto (pc := 20) (tgt := 24) dX13_next_20 (by decide) ?_
          refine j_istore_n (pc := 24) dX13_next_24 (by decide) (lo' := [some (.ref q), some (IV odd), some (IV (k : Int)), some (IV (k : Int)), none, none]) rfl ?_
          refine j_iinc (pc := 25) dX13_next_25 rfl (by decide) (lo' := [some (.ref q), some (IV odd), some (IV (k : Int)), some (IV ((k : Int) + 1)), none, none]) rfl ?_
          refine j_goto (pc := 28) (tgt := 4) dX13_next_28 (by decide) ?_
          exact ih_4 (k + 1) (k : Int) (by omega) (by omega) (by rw [hBT_succ1, ← hbb]; split <;> first | rfl | omega)
  exact hl_4 _ 1 0 (Nat.lt_succ_self _) (by omega) (by rw [hBT_succ1]; show (0 : Int) = if 0 < hCmp v odd f 0 0 then 0 else 0; split <;> rfl)

