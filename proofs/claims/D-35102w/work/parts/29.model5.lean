set_option maxRecDepth 100000
set_option maxHeartbeats 4000000 in
theorem m_digits {S : Type} {Γ : GG} {A : Nat → Prop} {Rep : S → Heap → Prop} {l : Launch} (x : S) (v : Int) (hv : 0 ≤ v ∧ v ≤ 9999) : Ct Γ A Rep l yX2_digits (ws_ yX2_digits cX2_digits 3 (some .int)) 1 0 0 [IV v] x (qI (fun (r : Int) (x' : S) => r = sDg v ∧ x' = x)) X0 := by
  refine Ct.ofJ (own := RX2) (nm := "digits") (lo := [some (IV v), none, none]) pn_X2 rfl rfl (List.forall_mem_cons.mpr ⟨rfl, (fun _ h => nomatch h)⟩) (Nat.le_of_ble_eq_true rfl) rfl ?_
  have hQ : ∀ (r : Int) (x' : S), (r = sDg v ∧ x' = x) → (qI (fun (r : Int) (x' : S) => r = sDg v ∧ x' = x)) (some (IV r)) x' := fun r x' h => ⟨r, rfl, h⟩
  generalize (qI (fun (r : Int) (x' : S) => r = sDg v ∧ x' = x)) = QP at hQ ⊢
  refine j_iconst (pc := 0) dX2_digits_0 rfl ?_
  refine j_istore_n (pc := 1) dX2_digits_1 (by decide) (lo' := [some (IV v), some (IV 1), none]) rfl ?_
  refine j_iload_n (pc := 2) dX2_digits_2 rfl ?_
  refine j_bipush (pc := 3) (a := 10) dX2_digits_3 (by decide) ?_
  refine j_idiv (pc := 5) dX2_digits_5 (by omega) (by omega) ?_
  refine j_istore_n (pc := 6) dX2_digits_6 (by decide) (lo' := [some (IV v), some (IV 1), some (IV (v / 10))]) rfl ?_
  have hl_7 : ∀ (fu : Nat) (n : Int) (z : Int), z.toNat < fu → 0 ≤ z ∧ z ≤ 999 ∧ 1 ≤ n → n + (if z = 0 then 0 else sDg z) = sDg v → J Γ A Rep l RX2 "digits" cX2_digits 3 (some .int) [] 1 0 0 QP X0 0 0 x 7 [some (IV v), some (IV n), some (IV z)] [] := by
    intro fu
    induction fu with
    | zero => intro n z hm; exact absurd hm (Nat.not_lt_zero _)
    | succ fu ih_7 =>
      intro n z hm hz hn
      refine j_iload_n (pc := 7) dX2_digits_7 rfl ?_
      refine j_if_le (pc := 8) (tgt := 22) dX2_digits_8 (by decide) (by omega) (fun c_8 => ?_) (fun c_8 => ?_)
      · refine j_iload_n (pc := 22) dX2_digits_22 rfl ?_
        refine j_iret (pc := 23) rfl (hQ _ _ ?_) dX2_digits_23
        exact ⟨by rw [if_pos (by omega)] at hn; omega, rfl⟩
      · refine j_iinc (pc := 11) dX2_digits_11 rfl (by decide) (lo' := [some (IV v), some (IV (n + 1)), some (IV z)]) rfl ?_
        refine j_iload_n (pc := 14) dX2_digits_14 rfl ?_
        refine j_bipush (pc := 15) (a := 10) dX2_digits_15 (by decide) ?_
        refine j_idiv (pc := 17) dX2_digits_17 (by omega) (by omega) ?_
        refine j_istore_n (pc := 18) dX2_digits_18 (by decide) (lo' := [some (IV v), some (IV (n + 1)), some (IV (z / 10))]) rfl ?_
        refine j_goto (pc := 19) (tgt := 7) dX2_digits_19 (by decide) ?_
        exact ih_7 (n + 1) (z / 10) (by omega) (by omega) (by rw [← hn]; unfold sDg; (repeat' split) <;> omega)
  exact hl_7 _ 1 (v / 10) (Nat.lt_succ_self _) (by omega) (by unfold sDg; (repeat' split) <;> omega)

theorem sDg_rng (v : Int) : 1 ≤ sDg v ∧ sDg v ≤ 4 := by unfold sDg; (repeat' split) <;> omega
theorem md_yX2_digits : MD yX2_digits 1 := by decide +kernel
set_option maxHeartbeats 4000000 in
theorem m_digitAt {S : Type} {Γ : GG} {A : Nat → Prop} {Rep : S → Heap → Prop} {l : Launch} (x : S) (v p : Int) (hv : 0 ≤ v ∧ v ≤ 9999) (hp : 0 ≤ p) (hpR : RR p) : Ct Γ A Rep l yX2_digitAt (ws_ yX2_digitAt cX2_digitAt 4 (some .int)) 2 0 0 [IV v, IV p] x (qI (fun (r : Int) (x' : S) => r = sDAt v p ∧ x' = x)) X0 := by
  refine Ct.ofJ (own := RX2) (nm := "digitAt") (lo := [some (IV v), some (IV p), none, none]) pn_X2 rfl rfl (List.forall_mem_cons.mpr ⟨rfl, (List.forall_mem_cons.mpr ⟨rfl, (fun _ h => nomatch h)⟩)⟩) (Nat.le_of_ble_eq_true rfl) rfl ?_
  have hQ : ∀ (r : Int) (x' : S), (r = sDAt v p ∧ x' = x) → (qI (fun (r : Int) (x' : S) => r = sDAt v p ∧ x' = x)) (some (IV r)) x' := fun r x' h => ⟨r, rfl, h⟩
  generalize (qI (fun (r : Int) (x' : S) => r = sDAt v p ∧ x' = x)) = QP at hQ ⊢
  have hd := sDg_rng v
  refine j_iload_n (pc := 0) dX2_digitAt_0 rfl ?_
  refine j_istore_n (pc := 1) dX2_digitAt_1 (by decide) (lo' := [some (IV v), some (IV p), some (IV v), none]) rfl ?_
  refine j_iload_n (pc := 2) dX2_digitAt_2 rfl ?_
  refine j_callS (pc := 3) (m_digits x v (by omega)) (lw_S q1774 q1775 q48 q1776) md_yX2_digits (by decide) (by decide) rfl (Nat.le_of_ble_eq_true rfl) dX2_digitAt_3 (qI.k (fun r_3 s_3 q_3 => ?_))
  obtain ⟨e1q_3, e2q_3⟩ := q_3
  subst r_3
  subst s_3
  refine j_iconst (pc := 6) dX2_digitAt_6 rfl ?_
  refine j_isub (pc := 7) dX2_digitAt_7 ?_
  refine j_istore_n (pc := 8) dX2_digitAt_8 (by decide) (lo' := [some (IV v), some (IV p), some (IV v), some (IV ((sDg v) - 1))]) rfl ?_
  have hl_9 : ∀ (fu : Nat) (q : Int) (z : Int), (q + 4).toNat < fu → (q = sDg v - 1 ∧ z = v) ∨ (p ≤ q ∧ ((q = sDg v - 2 ∧ z = v / 10) ∨ (q = sDg v - 3 ∧ z = v / 100) ∨ (q = sDg v - 4 ∧ z = v / 1000))) → J Γ A Rep l RX2 "digitAt" cX2_digitAt 4 (some .int) [] 2 0 0 QP X0 0 0 x 9 [some (IV v), some (IV p), some (IV z), some (IV q)] [] := by
    intro fu
    induction fu with
    | zero => intro q z hm; exact absurd hm (Nat.not_lt_zero _)
    | succ fu ih_9 =>
      intro q z hm hz
      refine j_iload_n (pc := 9) dX2_digitAt_9 rfl ?_
      refine j_iload_n (pc := 10) dX2_digitAt_10 rfl ?_
      refine j_icmp_le (pc := 11) (tgt := 25) dX2_digitAt_11 (by decide) (by omega) (by omega) (fun c_11 => ?_) (fun c_11 => ?_)
      · refine j_bipush (pc := 25) (a := 48) dX2_digitAt_25 (by decide) ?_
        refine j_iload_n (pc := 27) dX2_digitAt_27 rfl ?_
        refine j_bipush (pc := 28) (a := 10) dX2_digitAt_28 (by decide) ?_
        refine j_irem (pc := 30) dX2_digitAt_30 (by omega) (by omega) ?_
        refine j_iadd (pc := 31) dX2_digitAt_31 ?_
        refine j_iret (pc := 32) rfl (hQ _ _ ?_) dX2_digitAt_32
        exact ⟨by unfold sDAt; (repeat' split) <;> omega, rfl⟩
      · refine j_iload_n (pc := 14) dX2_digitAt_14 rfl ?_
        refine j_bipush (pc := 15) (a := 10) dX2_digitAt_15 (by decide) ?_
        refine j_idiv (pc := 17) dX2_digitAt_17 (by omega) (by omega) ?_
        refine j_istore_n (pc := 18) dX2_digitAt_18 (by decide) (lo' := [some (IV v), some (IV p), some (IV (z / 10)), some (IV q)]) rfl ?_
        refine j_iinc (pc := 19) dX2_digitAt_19 rfl (by decide) (lo' := [some (IV v), some (IV p), some (IV (z / 10)), some (IV (q + (-1)))]) rfl ?_
        refine j_goto (pc := 22) (tgt := 9) dX2_digitAt_22 (by decide) ?_
        exact ih_9 (q + (-1)) (z / 10) (by omega) (by omega)
  exact hl_9 _ ((sDg v) - 1) v (Nat.lt_succ_self _) (by omega)

theorem fa_X2_75_X2 : FA RX2 75 1 30 := ⟨RX2, TX2, 44, "BallotFoundryModel", rfl, in_X2, by decide, q1418, Or.inl rfl⟩
theorem fa_X2_72_X2 : FA RX2 72 1 29 := ⟨RX2, TX2, 44, "BallotFoundryModel", rfl, in_X2, by decide, q1417, Or.inl rfl⟩
set_option maxHeartbeats 4000000 in
theorem m_areAlike {Γ : GG} {l : Launch} {o : Nat} {ad : Nat → Nat} (σ : MM) (a b : Int) (ha : 0 ≤ a ∧ a ≤ 39) (hb : 0 ≤ b ∧ b ≤ 39) (hB : Bd σ) : Ct Γ (AM o ad) (RepM Γ o ad) l yX2_areAlike (ws_ yX2_areAlike cX2_areAlike 5 (some .boolean)) 1 0 0 [.ref o, IV a, IV b] σ (qI (fun (r : Int) (σ' : MM) => r = sAl σ a b 6 ∧ σ' = σ)) X0 := by
  refine Ct.ofJ (own := RX2) (nm := "areAlike") (lo := [some (.ref o), some (IV a), some (IV b), none, none]) pn_X2 rfl rfl (List.forall_mem_cons.mpr ⟨rfl, (List.forall_mem_cons.mpr ⟨rfl, (List.forall_mem_cons.mpr ⟨rfl, (fun _ h => nomatch h)⟩)⟩)⟩) (Nat.le_of_ble_eq_true rfl) rfl ?_
  have hQ : ∀ (r : Int) (σ' : MM), (r = sAl σ a b 6 ∧ σ' = σ) → (qI (fun (r : Int) (σ' : MM) => r = sAl σ a b 6 ∧ σ' = σ)) (some (IV r)) σ' := fun r σ' h => ⟨r, rfl, h⟩
  generalize (qI (fun (r : Int) (σ' : MM) => r = sAl σ a b 6 ∧ σ' = σ)) = QP at hQ ⊢
  refine j_aload_n (pc := 0) dX2_areAlike_0 rfl ?_
  refine m_getA (pc := 1) fa_X2_75_X2 (by decide) (by decide) dX2_areAlike_1 ?_
  refine j_iload_n (pc := 4) dX2_areAlike_4 rfl ?_
  refine m_ld (pc := 5) (v := σ.2 30 (a).toNat) (by decide) (by decide) rfl (by show 0 ≤ a ∧ a < ((40 : Nat) : Int); omega) rfl dX2_areAlike_5 ?_
  have n_1 : 0 ≤ σ.2 30 (a).toNat ∧ σ.2 30 (a).toNat ≤ 3 := hB.2 30 ((a).toNat)
  refine j_aload_n (pc := 6) dX2_areAlike_6 rfl ?_
  refine m_getA (pc := 7) fa_X2_75_X2 (by decide) (by decide) dX2_areAlike_7 ?_
  refine j_iload_n (pc := 10) dX2_areAlike_10 rfl ?_
  refine m_ld (pc := 11) (v := σ.2 30 (b).toNat) (by decide) (by decide) rfl (by show 0 ≤ b ∧ b < ((40 : Nat) : Int); omega) rfl dX2_areAlike_11 ?_
  have n_2 : 0 ≤ σ.2 30 (b).toNat ∧ σ.2 30 (b).toNat ≤ 3 := hB.2 30 ((b).toNat)
  refine j_icmp_eq (pc := 12) (tgt := 19) dX2_areAlike_12 (by decide) (by omega) (by omega) (fun c_12 => ?_) (fun c_12 => ?_)
  · refine j_iconst (pc := 19) dX2_areAlike_19 rfl ?_
    refine j_istore_n (pc := 20) dX2_areAlike_20 (by decide) (lo' := [some (.ref o), some (IV a), some (IV b), some (IV 0), none]) rfl ?_
    refine j_iconst (pc := 21) dX2_areAlike_21 rfl ?_
    refine j_istore (pc := 22) dX2_areAlike_22 (by decide) (lo' := [some (.ref o), some (IV a), some (IV b), some (IV 0), some (IV 0)]) rfl ?_
    have hl_24 : ∀ (fu : Nat) (k : Nat) (z : Int), 6 - k < fu → k ≤ 6 → z = sAl σ a b k → J Γ (AM o ad) (RepM Γ o ad) l RX2 "areAlike" cX2_areAlike 5 (some .boolean) [] 1 0 0 QP X0 0 0 σ 24 [some (.ref o), some (IV a), some (IV b), some (IV z), some (IV (k : Int))] [] := by
      intro fu
      induction fu with
      | zero => intro k z hm; exact absurd hm (Nat.not_lt_zero _)
      | succ fu ih_24 =>
        intro k z hm hk hz
        have hr := sAl_01 σ a b k
        refine j_iload (pc := 24) dX2_areAlike_24 rfl ?_
        refine j_bipush (pc := 26) (a := 6) dX2_areAlike_26 (by decide) ?_
        refine j_icmp_ge (pc := 28) (tgt := 74) dX2_areAlike_28 (by decide) (by omega) (by decide) (fun c_28 => ?_) (fun c_28 => ?_)
        · refine j_iload_n (pc := 74) dX2_areAlike_74 rfl ?_
          refine j_zret (pc := 75) rfl (by omega) (hQ _ _ ?_) dX2_areAlike_75
          exact ⟨by rw [hz]; congr 1; omega, rfl⟩
        · refine j_iload_n (pc := 31) dX2_areAlike_31 rfl ?_
          refine j_if_eq (pc := 32) (tgt := 66) dX2_areAlike_32 (by decide) (by omega) (fun c_32 => ?_) (fun c_32 => ?_)
          · refine j_iconst (pc := 66) dX2_areAlike_66 rfl ?_
            refine j_istore_n (pc := 67) dX2_areAlike_67 (by decide) (lo' := [some (.ref o), some (IV a), some (IV b), some (IV 0), some (IV (k : Int))]) rfl ?_
            refine j_iinc (pc := 68) dX2_areAlike_68 rfl (by decide) (lo' := [some (.ref o), some (IV a), some (IV b), some (IV 0), some (IV ((k : Int) + 1))]) rfl ?_
            refine j_goto (pc := 71) (tgt := 24) dX2_areAlike_71 (by decide) ?_
            exact ih_24 (k + 1) 0 (by omega) (by omega) (by simp only [sAl]; split <;> first | rfl | omega)
          · refine j_aload_n (pc := 35) dX2_areAlike_35 rfl ?_
            refine m_getA (pc := 36) fa_X2_72_X2 (by decide) (by decide) dX2_areAlike_36 ?_
            refine j_bipush (pc := 39) (a := 6) dX2_areAlike_39 (by decide) ?_
            refine j_iload_n (pc := 41) dX2_areAlike_41 rfl ?_
            refine j_imul (pc := 42) dX2_areAlike_42 ?_
            refine j_iload (pc := 43) dX2_areAlike_43 rfl ?_
            refine j_iadd (pc := 45) dX2_areAlike_45 ?_
            refine m_ld (pc := 46) (v := σ.2 29 ((6 * a) + (k : Int)).toNat) (by decide) (by decide) rfl (by show 0 ≤ (6 * a) + (k : Int) ∧ (6 * a) + (k : Int) < ((240 : Nat) : Int); omega) rfl dX2_areAlike_46 ?_
            have n_3 : 0 ≤ σ.2 29 ((6 * a) + (k : Int)).toNat ∧ σ.2 29 ((6 * a) + (k : Int)).toNat ≤ 20 := hB.2 29 (((6 * a) + (k : Int)).toNat)
            refine j_aload_n (pc := 47) dX2_areAlike_47 rfl ?_
            refine m_getA (pc := 48) fa_X2_72_X2 (by decide) (by decide) dX2_areAlike_48 ?_
            refine j_bipush (pc := 51) (a := 6) dX2_areAlike_51 (by decide) ?_
            refine j_iload_n (pc := 53) dX2_areAlike_53 rfl ?_
            refine j_imul (pc := 54) dX2_areAlike_54 ?_
            refine j_iload (pc := 55) dX2_areAlike_55 rfl ?_
            refine j_iadd (pc := 57) dX2_areAlike_57 ?_
            refine m_ld (pc := 58) (v := σ.2 29 ((6 * b) + (k : Int)).toNat) (by decide) (by decide) rfl (by show 0 ≤ (6 * b) + (k : Int) ∧ (6 * b) + (k : Int) < ((240 : Nat) : Int); omega) rfl dX2_areAlike_58 ?_
            have n_4 : 0 ≤ σ.2 29 ((6 * b) + (k : Int)).toNat ∧ σ.2 29 ((6 * b) + (k : Int)).toNat ≤ 20 := hB.2 29 (((6 * b) + (k : Int)).toNat)
            refine j_icmp_ne (pc := 59) (tgt := 66) dX2_areAlike_59 (by decide) (by omega) (by omega) (fun c_59 => ?_) (fun c_59 => ?_)
            · refine j_iconst (pc := 66) dX2_areAlike_66 rfl ?_
              refine j_istore_n (pc := 67) dX2_areAlike_67 (by decide) (lo' := [some (.ref o), some (IV a), some (IV b), some (IV 0), some (IV (k : Int))]) rfl ?_
              refine j_iinc (pc := 68) dX2_areAlike_68 rfl (by decide) (lo' := [some (.ref o), some (IV a), some (IV b), some (IV 0), some (IV ((k : Int) + 1))]) rfl ?_
              refine j_goto (pc := 71) (tgt := 24) dX2_areAlike_71 (by decide) ?_
              exact ih_24 (k + 1) 0 (by omega) (by omega) (by simp only [sAl]; split <;> first | rfl | omega)
            · refine j_iconst (pc := 62) dX2_areAlike_62 rfl ?_
              refine j_goto (pc := 63) (tgt := 67) dX2_areAlike_63 (by decide) ?_
              refine j_istore_n (pc := 67) dX2_areAlike_67 (by decide) (lo' := [some (.ref o), some (IV a), some (IV b), some (IV 1), some (IV (k : Int))]) rfl ?_
              refine j_iinc (pc := 68) dX2_areAlike_68 rfl (by decide) (lo' := [some (.ref o), some (IV a), some (IV b), some (IV 1), some (IV ((k : Int) + 1))]) rfl ?_
              refine j_goto (pc := 71) (tgt := 24) dX2_areAlike_71 (by decide) ?_
              exact ih_24 (k + 1) 1 (by omega) (by omega) (by simp only [sAl]; split <;> first | rfl | omega)
    exact hl_24 _ 0 0 (Nat.lt_succ_self _) (by omega) (by unfold sAl; split <;> first | rfl | omega)
  · refine j_iconst (pc := 15) dX2_areAlike_15 rfl ?_
    refine j_goto (pc := 16) (tgt := 20) dX2_areAlike_16 (by decide) ?_
    refine j_istore_n (pc := 20) dX2_areAlike_20 (by decide) (lo' := [some (.ref o), some (IV a), some (IV b), some (IV 1), none]) rfl ?_
    refine j_iconst (pc := 21) dX2_areAlike_21 rfl ?_
    refine j_istore (pc := 22) dX2_areAlike_22 (by decide) (lo' := [some (.ref o), some (IV a), some (IV b), some (IV 1), some (IV 0)]) rfl ?_
    have hl_24 : ∀ (fu : Nat) (k : Nat) (z : Int), 6 - k < fu → k ≤ 6 → z = sAl σ a b k → J Γ (AM o ad) (RepM Γ o ad) l RX2 "areAlike" cX2_areAlike 5 (some .boolean) [] 1 0 0 QP X0 0 0 σ 24 [some (.ref o), some (IV a), some (IV b), some (IV z), some (IV (k : Int))] [] := by
      intro fu
      induction fu with
      | zero => intro k z hm; exact absurd hm (Nat.not_lt_zero _)
      | succ fu ih_24 =>
        intro k z hm hk hz
        have hr := sAl_01 σ a b k
        refine j_iload (pc := 24) dX2_areAlike_24 rfl ?_
        refine j_bipush (pc := 26) (a := 6) dX2_areAlike_26 (by decide) ?_
        refine j_icmp_ge (pc := 28) (tgt := 74) dX2_areAlike_28 (by decide) (by omega) (by decide) (fun c_28_1 => ?_) (fun c_28_1 => ?_)
        · refine j_iload_n (pc := 74) dX2_areAlike_74 rfl ?_
          refine j_zret (pc := 75) rfl (by omega) (hQ _ _ ?_) dX2_areAlike_75
          exact ⟨by rw [hz]; congr 1; omega, rfl⟩
        · refine j_iload_n (pc := 31) dX2_areAlike_31 rfl ?_
          refine j_if_eq (pc := 32) (tgt := 66) dX2_areAlike_32 (by decide) (by omega) (fun c_32_1 => ?_) (fun c_32_1 => ?_)
          · refine j_iconst (pc := 66) dX2_areAlike_66 rfl ?_
            refine j_istore_n (pc := 67) dX2_areAlike_67 (by decide) (lo' := [some (.ref o), some (IV a), some (IV b), some (IV 0), some (IV (k : Int))]) rfl ?_
            refine j_iinc (pc := 68) dX2_areAlike_68 rfl (by decide) (lo' := [some (.ref o), some (IV a), some (IV b), some (IV 0), some (IV ((k : Int) + 1))]) rfl ?_
            refine j_goto (pc := 71) (tgt := 24) dX2_areAlike_71 (by decide) ?_
            exact ih_24 (k + 1) 0 (by omega) (by omega) (by simp only [sAl]; split <;> first | rfl | omega)
          · refine j_aload_n (pc := 35) dX2_areAlike_35 rfl ?_
            refine m_getA (pc := 36) fa_X2_72_X2 (by decide) (by decide) dX2_areAlike_36 ?_
            refine j_bipush (pc := 39) (a := 6) dX2_areAlike_39 (by decide) ?_
            refine j_iload_n (pc := 41) dX2_areAlike_41 rfl ?_
            refine j_imul (pc := 42) dX2_areAlike_42 ?_
            refine j_iload (pc := 43) dX2_areAlike_43 rfl ?_
            refine j_iadd (pc := 45) dX2_areAlike_45 ?_
            refine m_ld (pc := 46) (v := σ.2 29 ((6 * a) + (k : Int)).toNat) (by decide) (by decide) rfl (by show 0 ≤ (6 * a) + (k : Int) ∧ (6 * a) + (k : Int) < ((240 : Nat) : Int); omega) rfl dX2_areAlike_46 ?_
            have n_5 : 0 ≤ σ.2 29 ((6 * a) + (k : Int)).toNat ∧ σ.2 29 ((6 * a) + (k : Int)).toNat ≤ 20 := hB.2 29 (((6 * a) + (k : Int)).toNat)
            refine j_aload_n (pc := 47) dX2_areAlike_47 rfl ?_
            refine m_getA (pc := 48) fa_X2_72_X2 (by decide) (by decide) dX2_areAlike_48 ?_
            refine j_bipush (pc := 51) (a := 6) dX2_areAlike_51 (by decide) ?_
            refine j_iload_n (pc := 53) dX2_areAlike_53 rfl ?_
            refine j_imul (pc := 54) dX2_areAlike_54 ?_
            refine j_iload (pc := 55) dX2_areAlike_55 rfl ?_
            refine j_iadd (pc := 57) dX2_areAlike_57 ?_
            refine m_ld (pc := 58) (v := σ.2 29 ((6 * b) + (k : Int)).toNat) (by decide) (by decide) rfl (by show 0 ≤ (6 * b) + (k : Int) ∧ (6 * b) + (k : Int) < ((240 : Nat) : Int); omega) rfl dX2_areAlike_58 ?_
            have n_6 : 0 ≤ σ.2 29 ((6 * b) + (k : Int)).toNat ∧ σ.2 29 ((6 * b) + (k : Int)).toNat ≤ 20 := hB.2 29 (((6 * b) + (k : Int)).toNat)
            refine j_icmp_ne (pc := 59) (tgt := 66) dX2_areAlike_59 (by decide) (by omega) (by omega) (fun c_59_1 => ?_) (fun c_59_1 => ?_)
            · refine j_iconst (pc := 66) dX2_areAlike_66 rfl ?_
              refine j_istore_n (pc := 67) dX2_areAlike_67 (by decide) (lo' := [some (.ref o), some (IV a), some (IV b), some (IV 0), some (IV (k : Int))]) rfl ?_
              refine j_iinc (pc := 68) dX2_areAlike_68 rfl (by decide) (lo' := [some (.ref o), some (IV a), some (IV b), some (IV 0), some (IV ((k : Int) + 1))]) rfl ?_
              refine j_goto (pc := 71) (tgt := 24) dX2_areAlike_71 (by decide) ?_
              exact ih_24 (k + 1) 0 (by omega) (by omega) (by simp only [sAl]; split <;> first | rfl | omega)
            · refine j_iconst (pc := 62) dX2_areAlike_62 rfl ?_
              refine j_goto (pc := 63) (tgt := 67) dX2_areAlike_63 (by decide) ?_
              refine j_istore_n (pc := 67) dX2_areAlike_67 (by decide) (lo' := [some (.ref o), some (IV a), some (IV b), some (IV 1), some (IV (k : Int))]) rfl ?_
              refine j_iinc (pc := 68) dX2_areAlike_68 rfl (by decide) (lo' := [some (.ref o), some (IV a), some (IV b), some (IV 1), some (IV ((k : Int) + 1))]) rfl ?_
              refine j_goto (pc := 71) (tgt := 24) dX2_areAlike_71 (by decide) ?_
              exact ih_24 (k + 1) 1 (by omega) (by omega) (by simp only [sAl]; split <;> first | rfl | omega)
    exact hl_24 _ 0 1 (Nat.lt_succ_self _) (by omega) (by unfold sAl; split <;> first | rfl | omega)

set_option maxHeartbeats 4000000 in
theorem m_numberOf {Γ : GG} {l : Launch} {o : Nat} {ad : Nat → Nat} (σ : MM) (s : Int) (p : Int) (hs : RR s) (hp : RR p) (hB : Bd σ) : Ct Γ (AM o ad) (RepM Γ o ad) l yX2_numberOf (ws_ yX2_numberOf cX2_numberOf 3 (some .int)) 4 0 0 [.ref o, IV s, IV p] σ (qI (fun (r : Int) (σ' : MM) => oEnd σ (t2 (isS σ s) (0 ≤ p ∧ p ≤ 5)) (if σ.2 32 s.toNat = -1 then -1 else σ.2 29 (6 * σ.2 32 s.toNat + p).toNat) (σ0 σ) r σ')) X0 := by
  refine Ct.ofJ (own := RX2) (nm := "numberOf") (lo := [some (.ref o), some (IV s), some (IV p)]) pn_X2 rfl rfl (List.forall_mem_cons.mpr ⟨rfl, (List.forall_mem_cons.mpr ⟨rfl, (List.forall_mem_cons.mpr ⟨rfl, (fun _ h => nomatch h)⟩)⟩)⟩) (Nat.le_of_ble_eq_true rfl) rfl ?_
  have hQ : ∀ (r : Int) (σ' : MM), (oEnd σ (t2 (isS σ s) (0 ≤ p ∧ p ≤ 5)) (if σ.2 32 s.toNat = -1 then -1 else σ.2 29 (6 * σ.2 32 s.toNat + p).toNat) (σ0 σ) r σ') → (qI (fun (r : Int) (σ' : MM) => oEnd σ (t2 (isS σ s) (0 ≤ p ∧ p ≤ 5)) (if σ.2 32 s.toNat = -1 then -1 else σ.2 29 (6 * σ.2 32 s.toNat + p).toNat) (σ0 σ) r σ')) (some (IV r)) σ' := fun r σ' h => ⟨r, rfl, h⟩
  generalize (qI (fun (r : Int) (σ' : MM) => oEnd σ (t2 (isS σ s) (0 ≤ p ∧ p ≤ 5)) (if σ.2 32 s.toNat = -1 then -1 else σ.2 29 (6 * σ.2 32 s.toNat + p).toNat) (σ0 σ) r σ')) = QP at hQ ⊢
  have n6 : 0 ≤ σ.1 6 ∧ σ.1 6 ≤ 5 := hB.1 6
  have n9 : 0 ≤ σ.1 9 ∧ σ.1 9 ≤ 20 := hB.1 9
  have n0 : 0 ≤ σ.1 0 ∧ σ.1 0 ≤ 2100 := hB.1 0
  have n14 : 0 ≤ σ.1 14 ∧ σ.1 14 ≤ 5 := hB.1 14
  have n26 : 0 ≤ σ.1 26 ∧ σ.1 26 ≤ 60 := hB.1 26
  refine j_aload_n (pc := 0) dX2_numberOf_0 rfl ?_
  refine j_aload_n (pc := 1) dX2_numberOf_1 rfl ?_
  refine j_iload_n (pc := 2) dX2_numberOf_2 rfl ?_
  refine j_callV (pc := 3) (m_isStation σ s (by omega) (show 0 ≤ σ.1 6 ∧ σ.1 6 ≤ 5 by omega)) (lw_V q1566 q1568 qs24 q48 q1569) rfl md_yX2_isStation (RC.ofM _ rfl) (by decide) (by decide) rfl (Nat.le_of_ble_eq_true rfl) dX2_numberOf_3 (qI.k (fun r_3 s_3 q_3 => ?_))
  obtain ⟨e1q_3, e2q_3⟩ := q_3
  subst r_3
  subst s_3
  refine j_iload_n (pc := 6) dX2_numberOf_6 rfl ?_
  refine j_iconst (pc := 7) dX2_numberOf_7 rfl ?_
  refine j_iconst (pc := 8) dX2_numberOf_8 rfl ?_
  refine j_callS (pc := 9) (m_in σ p 0 5 (by omega) (by decide) (by decide)) (lw_S q1532 q1533 q48 q1534) md_yX2_in (by decide) (by decide) rfl (Nat.le_of_ble_eq_true rfl) dX2_numberOf_9 (qI.k (fun r_9 s_9 q_9 => ?_))
  obtain ⟨e1q_9, e2q_9⟩ := q_9
  subst r_9
  subst s_9
  refine j_callV (pc := 12) (m_asked2 σ (bI (0 ≤ s ∧ s ≤ σ.1 6 - 1)) (bI (0 ≤ p ∧ p ≤ 5)) (bI_01 _) (bI_01 _)) (lw_V q1538 q1540 qs20 q48 q1541) rfl md_yX2_asked (RC.ofM _ rfl) (by decide) (by decide) rfl (Nat.le_of_ble_eq_true rfl) dX2_numberOf_12 (qI.k (fun r_12 s_12 q_12 => ?_))
  rcases q_12 with ⟨q_12a, rfl, rfl⟩ | ⟨q_12a, rfl, rfl⟩
  · have q_12_0 := bI_or ((0 ≤ s ∧ s ≤ σ.1 6 - 1))
    have q_12_1 := bI_or ((0 ≤ p ∧ p ≤ 5))
    refine j_if_ne (pc := 15) (tgt := 20) dX2_numberOf_15 (by decide) (by decide) (fun c_15 => ?_) (fun c_15 => ?_)
    · refine j_aload_n (pc := 20) dX2_numberOf_20 rfl ?_
      refine m_getA (pc := 21) fa_X2_81_X2 (by decide) (by decide) dX2_numberOf_21 ?_
      refine j_iload_n (pc := 24) dX2_numberOf_24 rfl ?_
      refine m_ld (pc := 25) (v := σ.2 32 (s).toNat) (by decide) (by decide) rfl (by show 0 ≤ s ∧ s < ((5 : Nat) : Int); omega) rfl dX2_numberOf_25 ?_
      have n_1 : (-1) ≤ σ.2 32 (s).toNat ∧ σ.2 32 (s).toNat ≤ 39 := hB.2 32 ((s).toNat)
      refine j_iconst (pc := 26) dX2_numberOf_26 rfl ?_
      refine j_icmp_ne (pc := 27) (tgt := 34) dX2_numberOf_27 (by decide) (by omega) (by decide) (fun c_27 => ?_) (fun c_27 => ?_)
      · refine j_aload_n (pc := 34) dX2_numberOf_34 rfl ?_
        refine m_getA (pc := 35) fa_X2_72_X2 (by decide) (by decide) dX2_numberOf_35 ?_
        refine j_bipush (pc := 38) (a := 6) dX2_numberOf_38 (by decide) ?_
        refine j_aload_n (pc := 40) dX2_numberOf_40 rfl ?_
        refine m_getA (pc := 41) fa_X2_81_X2 (by decide) (by decide) dX2_numberOf_41 ?_
        refine j_iload_n (pc := 44) dX2_numberOf_44 rfl ?_
        refine m_ld (pc := 45) (v := σ.2 32 (s).toNat) (by decide) (by decide) rfl (by show 0 ≤ s ∧ s < ((5 : Nat) : Int); omega) rfl dX2_numberOf_45 ?_
        refine j_imul (pc := 46) dX2_numberOf_46 ?_
        refine j_iload_n (pc := 47) dX2_numberOf_47 rfl ?_
        refine j_iadd (pc := 48) dX2_numberOf_48 ?_
        refine m_ld (pc := 49) (v := σ.2 29 ((6 * (σ.2 32 (s).toNat)) + p).toNat) (by decide) (by decide) rfl (by show 0 ≤ (6 * (σ.2 32 (s).toNat)) + p ∧ (6 * (σ.2 32 (s).toNat)) + p < ((240 : Nat) : Int); omega) rfl dX2_numberOf_49 ?_
        have n_2 : 0 ≤ σ.2 29 ((6 * (σ.2 32 (s).toNat)) + p).toNat ∧ σ.2 29 ((6 * (σ.2 32 (s).toNat)) + p).toNat ≤ 20 := hB.2 29 (((6 * (σ.2 32 (s).toNat)) + p).toNat)
        refine j_iret (pc := 50) rfl (hQ _ _ ?_) dX2_numberOf_50
        exact Or.inl ⟨by unfold t2; (repeat' split) <;> omega, by split <;> first | rfl | omega, rfl⟩
      · refine j_iconst (pc := 30) dX2_numberOf_30 rfl ?_
        refine j_goto (pc := 31) (tgt := 50) dX2_numberOf_31 (by decide) ?_
        refine j_iret (pc := 50) rfl (hQ _ _ ?_) dX2_numberOf_50
        exact Or.inl ⟨by unfold t2; (repeat' split) <;> omega, by split <;> first | rfl | omega, rfl⟩
    · exact absurd c_15 (by decide)
  · have q_12_0 := bI_or ((0 ≤ s ∧ s ≤ σ.1 6 - 1))
    have q_12_1 := bI_or ((0 ≤ p ∧ p ≤ 5))
    refine j_if_ne (pc := 15) (tgt := 20) dX2_numberOf_15 (by decide) (by decide) (fun c_15_1 => ?_) (fun c_15_1 => ?_)
    · exact absurd c_15_1 (by decide)
    · refine j_iconst (pc := 18) dX2_numberOf_18 rfl ?_
      refine j_iret (pc := 19) rfl (hQ _ _ ?_) dX2_numberOf_19
      exact Or.inr ⟨by unfold t2; (repeat' split) <;> omega, rfl, by congr 1; unfold t2; (repeat' split) <;> omega⟩

set_option maxHeartbeats 4000000 in
theorem m_inBox {Γ : GG} {l : Launch} {o : Nat} {ad : Nat → Nat} (σ : MM) (s q : Int) (hs : 0 ≤ s ∧ s ≤ 4) (hq : RR q) (hB : Bd σ) : Ct Γ (AM o ad) (RepM Γ o ad) l yX2_inBox (ws_ yX2_inBox cX2_inBox 5 (some .int)) 1 0 0 [.ref o, IV s, IV q] σ (qI (fun (r : Int) (σ' : MM) => r = sBoxed σ s q ∧ σ' = σ)) X0 := by
  refine Ct.ofJ (own := RX2) (nm := "inBox") (lo := [some (.ref o), some (IV s), some (IV q), none, none]) pn_X2 rfl rfl (List.forall_mem_cons.mpr ⟨rfl, (List.forall_mem_cons.mpr ⟨rfl, (List.forall_mem_cons.mpr ⟨rfl, (fun _ h => nomatch h)⟩)⟩)⟩) (Nat.le_of_ble_eq_true rfl) rfl ?_
  have hQ : ∀ (r : Int) (σ' : MM), (r = sBoxed σ s q ∧ σ' = σ) → (qI (fun (r : Int) (σ' : MM) => r = sBoxed σ s q ∧ σ' = σ)) (some (IV r)) σ' := fun r σ' h => ⟨r, rfl, h⟩
  generalize (qI (fun (r : Int) (σ' : MM) => r = sBoxed σ s q ∧ σ' = σ)) = QP at hQ ⊢
  refine j_iconst (pc := 0) dX2_inBox_0 rfl ?_
  refine j_istore_n (pc := 1) dX2_inBox_1 (by decide) (lo' := [some (.ref o), some (IV s), some (IV q), some (IV 0), none]) rfl ?_
  refine j_bipush (pc := 2) (a := 20) dX2_inBox_2 (by decide) ?_
  refine j_iload_n (pc := 4) dX2_inBox_4 rfl ?_
  refine j_imul (pc := 5) dX2_inBox_5 ?_
  refine j_istore (pc := 6) dX2_inBox_6 (by decide) (lo' := [some (.ref o), some (IV s), some (IV q), some (IV 0), some (IV (20 * s))]) rfl ?_
  have hl_8 : ∀ (fu : Nat) (n : Nat) (k : Int) (z : Int), 20 - n < fu → (n : Int) ≤ σ.2 28 s.toNat → k = 20 * s + n → z = sInB σ s q n → J Γ (AM o ad) (RepM Γ o ad) l RX2 "inBox" cX2_inBox 5 (some .int) [] 1 0 0 QP X0 0 0 σ 8 [some (.ref o), some (IV s), some (IV q), some (IV z), some (IV k)] [] := by
    intro fu
    induction fu with
    | zero => intro n k z hm; exact absurd hm (Nat.not_lt_zero _)
    | succ fu ih_8 =>
      intro n k z hm hn hk hz
      have hb9 : 0 ≤ σ.2 28 s.toNat ∧ σ.2 28 s.toNat ≤ 20 := hB.2 28 s.toNat
      have hzr := sInB_rng σ s q n
      refine j_iload (pc := 8) dX2_inBox_8 rfl ?_
      refine j_bipush (pc := 10) (a := 20) dX2_inBox_10 (by decide) ?_
      refine j_iload_n (pc := 12) dX2_inBox_12 rfl ?_
      refine j_imul (pc := 13) dX2_inBox_13 ?_
      refine j_aload_n (pc := 14) dX2_inBox_14 rfl ?_
      refine m_getA (pc := 15) fa_X2_69_X2 (by decide) (by decide) dX2_inBox_15 ?_
      refine j_iload_n (pc := 18) dX2_inBox_18 rfl ?_
      refine m_ld (pc := 19) (v := σ.2 28 (s).toNat) (by decide) (by decide) rfl (by show 0 ≤ s ∧ s < ((5 : Nat) : Int); omega) rfl dX2_inBox_19 ?_
      have n_1 : 0 ≤ σ.2 28 (s).toNat ∧ σ.2 28 (s).toNat ≤ 20 := hB.2 28 ((s).toNat)
      refine j_iadd (pc := 20) dX2_inBox_20 ?_
      refine j_icmp_ge (pc := 21) (tgt := 49) dX2_inBox_21 (by decide) (by omega) (by omega) (fun c_21 => ?_) (fun c_21 => ?_)
      · refine j_iload_n (pc := 49) dX2_inBox_49 rfl ?_
        refine j_iret (pc := 50) rfl (hQ _ _ ?_) dX2_inBox_50
        exact ⟨by rw [hz]; unfold sBoxed; congr 1; omega, rfl⟩
      · refine j_iload_n (pc := 24) dX2_inBox_24 rfl ?_
        refine j_aload_n (pc := 25) dX2_inBox_25 rfl ?_
        refine m_getA (pc := 26) fa_X2_66_X2 (by decide) (by decide) dX2_inBox_26 ?_
        refine j_iload (pc := 29) dX2_inBox_29 rfl ?_
        refine m_ld (pc := 31) (v := σ.2 27 (k).toNat) (by decide) (by decide) rfl (by show 0 ≤ k ∧ k < ((100 : Nat) : Int); omega) rfl dX2_inBox_31 ?_
        have n_2 : 0 ≤ σ.2 27 (k).toNat ∧ σ.2 27 (k).toNat ≤ 5 := hB.2 27 ((k).toNat)
        refine j_iload_n (pc := 32) dX2_inBox_32 rfl ?_
        refine j_icmp_ne (pc := 33) (tgt := 40) dX2_inBox_33 (by decide) (by omega) (by omega) (fun c_33 => ?_) (fun c_33 => ?_)
        · refine j_iconst (pc := 40) dX2_inBox_40 rfl ?_
          refine j_iadd (pc := 41) dX2_inBox_41 ?_
          refine j_istore_n (pc := 42) dX2_inBox_42 (by decide) (lo' := [some (.ref o), some (IV s), some (IV q), some (IV (z + 0)), some (IV k)]) rfl ?_
          refine j_iinc (pc := 43) dX2_inBox_43 rfl (by decide) (lo' := [some (.ref o), some (IV s), some (IV q), some (IV (z + 0)), some (IV (k + 1))]) rfl ?_
          refine j_goto (pc := 46) (tgt := 8) dX2_inBox_46 (by decide) ?_
          exact ih_8 (n + 1) (k + 1) (z + 0) (by omega) (by omega) (by omega) (by simp only [sInB]; rw [← hk]; split <;> omega)
        · refine j_iconst (pc := 36) dX2_inBox_36 rfl ?_
          refine j_goto (pc := 37) (tgt := 41) dX2_inBox_37 (by decide) ?_
          refine j_iadd (pc := 41) dX2_inBox_41 ?_
          refine j_istore_n (pc := 42) dX2_inBox_42 (by decide) (lo' := [some (.ref o), some (IV s), some (IV q), some (IV (z + 1)), some (IV k)]) rfl ?_
          refine j_iinc (pc := 43) dX2_inBox_43 rfl (by decide) (lo' := [some (.ref o), some (IV s), some (IV q), some (IV (z + 1)), some (IV (k + 1))]) rfl ?_
          refine j_goto (pc := 46) (tgt := 8) dX2_inBox_46 (by decide) ?_
          exact ih_8 (n + 1) (k + 1) (z + 1) (by omega) (by omega) (by omega) (by simp only [sInB]; rw [← hk]; split <;> omega)
  exact hl_8 _ 0 (20 * s) 0 (Nat.lt_succ_self _) (hB.2 28 s.toNat).1 (by omega) rfl

theorem md_yX2_inBox : MD yX2_inBox 2 := by decide +kernel
set_option maxHeartbeats 4000000 in
theorem m_misread {Γ : GG} {l : Launch} {o : Nat} {ad : Nat → Nat} (σ : MM) (s : Int) (hs : RR s) (hB : Bd σ) : Ct Γ (AM o ad) (RepM Γ o ad) l yX2_misread (ws_ yX2_misread cX2_misread 5 (some .int)) 4 0 0 [.ref o, IV s] σ (qI (fun (r : Int) (σ' : MM) => oEnd σ (t1 (isS σ s)) (if σ.2 32 s.toNat = -1 then -1 else sMis σ s 6) (σ0 σ) r σ')) X0 := by
  refine Ct.ofJ (own := RX2) (nm := "misread") (lo := [some (.ref o), some (IV s), none, none, none]) pn_X2 rfl rfl (List.forall_mem_cons.mpr ⟨rfl, (List.forall_mem_cons.mpr ⟨rfl, (fun _ h => nomatch h)⟩)⟩) (Nat.le_of_ble_eq_true rfl) rfl ?_
  have hQ : ∀ (r : Int) (σ' : MM), (oEnd σ (t1 (isS σ s)) (if σ.2 32 s.toNat = -1 then -1 else sMis σ s 6) (σ0 σ) r σ') → (qI (fun (r : Int) (σ' : MM) => oEnd σ (t1 (isS σ s)) (if σ.2 32 s.toNat = -1 then -1 else sMis σ s 6) (σ0 σ) r σ')) (some (IV r)) σ' := fun r σ' h => ⟨r, rfl, h⟩
  generalize (qI (fun (r : Int) (σ' : MM) => oEnd σ (t1 (isS σ s)) (if σ.2 32 s.toNat = -1 then -1 else sMis σ s 6) (σ0 σ) r σ')) = QP at hQ ⊢
  have n6 : 0 ≤ σ.1 6 ∧ σ.1 6 ≤ 5 := hB.1 6
  have n9 : 0 ≤ σ.1 9 ∧ σ.1 9 ≤ 20 := hB.1 9
  have n0 : 0 ≤ σ.1 0 ∧ σ.1 0 ≤ 2100 := hB.1 0
  have n14 : 0 ≤ σ.1 14 ∧ σ.1 14 ≤ 5 := hB.1 14
  have n26 : 0 ≤ σ.1 26 ∧ σ.1 26 ≤ 60 := hB.1 26
  refine j_aload_n (pc := 0) dX2_misread_0 rfl ?_
  refine j_aload_n (pc := 1) dX2_misread_1 rfl ?_
  refine j_iload_n (pc := 2) dX2_misread_2 rfl ?_
  refine j_callV (pc := 3) (m_isStation σ s (by omega) (show 0 ≤ σ.1 6 ∧ σ.1 6 ≤ 5 by omega)) (lw_V q1566 q1568 qs24 q48 q1569) rfl md_yX2_isStation (RC.ofM _ rfl) (by decide) (by decide) rfl (Nat.le_of_ble_eq_true rfl) dX2_misread_3 (qI.k (fun r_3 s_3 q_3 => ?_))
  obtain ⟨e1q_3, e2q_3⟩ := q_3
  subst r_3
  subst s_3
  refine j_callV (pc := 6) (m_asked1 σ (bI (0 ≤ s ∧ s ≤ σ.1 6 - 1)) (bI_01 _)) (lw_V q1546 q1548 qs21 q48 q1549) rfl md_yX2_asked_2 (RC.ofM _ rfl) (by decide) (by decide) rfl (Nat.le_of_ble_eq_true rfl) dX2_misread_6 (qI.k (fun r_6 s_6 q_6 => ?_))
  rcases q_6 with ⟨q_6a, rfl, rfl⟩ | ⟨q_6a, rfl, rfl⟩
  · have q_6_0 := bI_or ((0 ≤ s ∧ s ≤ σ.1 6 - 1))
    refine j_if_ne (pc := 9) (tgt := 14) dX2_misread_9 (by decide) (by decide) (fun c_9 => ?_) (fun c_9 => ?_)
    · refine j_aload_n (pc := 14) dX2_misread_14 rfl ?_
      refine m_getA (pc := 15) fa_X2_81_X2 (by decide) (by decide) dX2_misread_15 ?_
      refine j_iload_n (pc := 18) dX2_misread_18 rfl ?_
      refine m_ld (pc := 19) (v := σ.2 32 (s).toNat) (by decide) (by decide) rfl (by show 0 ≤ s ∧ s < ((5 : Nat) : Int); omega) rfl dX2_misread_19 ?_
      have n_1 : (-1) ≤ σ.2 32 (s).toNat ∧ σ.2 32 (s).toNat ≤ 39 := hB.2 32 ((s).toNat)
      refine j_iconst (pc := 20) dX2_misread_20 rfl ?_
      refine j_icmp_ne (pc := 21) (tgt := 28) dX2_misread_21 (by decide) (by omega) (by decide) (fun c_21 => ?_) (fun c_21 => ?_)
      · refine j_iconst (pc := 28) dX2_misread_28 rfl ?_
        refine j_istore_n (pc := 29) dX2_misread_29 (by decide) (lo' := [some (.ref o), some (IV s), some (IV 0), none, none]) rfl ?_
        refine j_iconst (pc := 30) dX2_misread_30 rfl ?_
        refine j_istore_n (pc := 31) dX2_misread_31 (by decide) (lo' := [some (.ref o), some (IV s), some (IV 0), some (IV 0), none]) rfl ?_
        have hl_32 : ∀ (fu : Nat) (k : Nat) (z : Int), 6 - k < fu → k ≤ 6 → (σ.2 32 s.toNat = -1 ∧ z = -1) ∨ (σ.2 32 s.toNat ≠ -1 ∧ z = sMis σ s k) → J Γ (AM o ad) (RepM Γ o ad) l RX2 "misread" cX2_misread 5 (some .int) [] 4 0 0 QP X0 0 0 (setI σ 43 0) 32 [some (.ref o), some (IV s), some (IV z), some (IV (k : Int)), none] [] := by
          intro fu
          induction fu with
          | zero => intro k z hm; exact absurd hm (Nat.not_lt_zero _)
          | succ fu ih_32 =>
            intro k z hm hk hz
            have hr := sMis_rng hB s k
            have hq32 : -1 ≤ σ.2 32 s.toNat ∧ σ.2 32 s.toNat ≤ 39 := hB.2 32 s.toNat
            refine j_iload_n (pc := 32) dX2_misread_32 rfl ?_
            refine j_bipush (pc := 33) (a := 6) dX2_misread_33 (by decide) ?_
            refine j_icmp_ge (pc := 35) (tgt := 88) dX2_misread_35 (by decide) (by omega) (by decide) (fun c_35 => ?_) (fun c_35 => ?_)
            · obtain rfl : k = 6 := by omega
              refine j_iload_n (pc := 88) dX2_misread_88 rfl ?_
              refine j_iret (pc := 89) rfl (hQ _ _ ?_) dX2_misread_89
              exact Or.inl ⟨by unfold t1; (repeat' split) <;> omega, by split <;> omega, rfl⟩
            · refine j_iload_n (pc := 38) dX2_misread_38 rfl ?_
              refine j_iconst (pc := 39) dX2_misread_39 rfl ?_
              refine j_icmp_eq (pc := 40) (tgt := 88) dX2_misread_40 (by decide) (by omega) (by decide) (fun c_40 => ?_) (fun c_40 => ?_)
              · refine j_iload_n (pc := 88) dX2_misread_88 rfl ?_
                refine j_iret (pc := 89) rfl (hQ _ _ ?_) dX2_misread_89
                exact Or.inl ⟨by unfold t1; (repeat' split) <;> omega, by split <;> omega, rfl⟩
              · refine j_aload_n (pc := 43) dX2_misread_43 rfl ?_
                refine j_iload_n (pc := 44) dX2_misread_44 rfl ?_
                refine j_iload_n (pc := 45) dX2_misread_45 rfl ?_
                refine j_callV (pc := 46) (m_inBox (setI σ 43 0) s (k : Int) (by omega) (by omega) (Bd.i hB (by show 0 ≤ 0 ∧ 0 ≤ (3 : Int); omega))) (lw_V q1722 q1724 qs38 q48 q1725) rfl md_yX2_inBox (RC.ofM _ rfl) (by decide) (by decide) rfl (Nat.le_of_ble_eq_true rfl) dX2_misread_46 (qI.k (fun r_46 s_46 q_46 => ?_))
                obtain ⟨e1q_46, e2q_46⟩ := q_46
                subst r_46
                subst s_46
                have rs_46 := sBoxed_rng (σ := setI σ 43 0) (Bd.i hB (by show 0 ≤ 0 ∧ 0 ≤ (3 : Int); omega)) s (k : Int)
                have e9 : sBoxed (setI σ 43 0) s k = sBoxed σ s k := sInB_ext (σ := σ) (u := setI σ 43 0) rfl s k _
                refine j_aload_n (pc := 49) dX2_misread_49 rfl ?_
                refine m_getA (pc := 50) fa_X2_72_X2 (by decide) (by decide) dX2_misread_50 ?_
                refine j_bipush (pc := 53) (a := 6) dX2_misread_53 (by decide) ?_
                refine j_aload_n (pc := 55) dX2_misread_55 rfl ?_
                refine m_getA (pc := 56) fa_X2_81_X2 (by decide) (by decide) dX2_misread_56 ?_
                refine j_iload_n (pc := 59) dX2_misread_59 rfl ?_
                refine m_ld (pc := 60) (v := σ.2 32 (s).toNat) (by decide) (by decide) rfl (by show 0 ≤ s ∧ s < ((5 : Nat) : Int); omega) rfl dX2_misread_60 ?_
                refine j_imul (pc := 61) dX2_misread_61 ?_
                refine j_iload_n (pc := 62) dX2_misread_62 rfl ?_
                refine j_iadd (pc := 63) dX2_misread_63 ?_
                refine m_ld (pc := 64) (v := σ.2 29 ((6 * (σ.2 32 (s).toNat)) + (k : Int)).toNat) (by decide) (by decide) rfl (by show 0 ≤ (6 * (σ.2 32 (s).toNat)) + (k : Int) ∧ (6 * (σ.2 32 (s).toNat)) + (k : Int) < ((240 : Nat) : Int); omega) rfl dX2_misread_64 ?_
                have n_2 : 0 ≤ σ.2 29 ((6 * (σ.2 32 (s).toNat)) + (k : Int)).toNat ∧ σ.2 29 ((6 * (σ.2 32 (s).toNat)) + (k : Int)).toNat ≤ 20 := hB.2 29 (((6 * (σ.2 32 (s).toNat)) + (k : Int)).toNat)
                refine j_isub (pc := 65) dX2_misread_65 ?_
                refine j_istore (pc := 66) dX2_misread_66 (by decide) (lo' := [some (.ref o), some (IV s), some (IV z), some (IV (k : Int)), some (IV ((sBoxed (setI σ 43 0) s (k : Int)) - (σ.2 29 ((6 * (σ.2 32 (s).toNat)) + (k : Int)).toNat)))]) rfl ?_
                refine j_iload_n (pc := 68) dX2_misread_68 rfl ?_
                refine j_iload (pc := 69) dX2_misread_69 rfl ?_
                refine j_if_le (pc := 71) (tgt := 79) dX2_misread_71 (by decide) (by omega) (fun c_71 => ?_) (fun c_71 => ?_)
                · refine j_iconst (pc := 79) dX2_misread_79 rfl ?_
                  refine j_iadd (pc := 80) dX2_misread_80 ?_
                  refine j_istore_n (pc := 81) dX2_misread_81 (by decide) (lo' := [some (.ref o), some (IV s), some (IV (z + 0)), some (IV (k : Int)), some (IV ((sBoxed (setI σ 43 0) s (k : Int)) - (σ.2 29 ((6 * (σ.2 32 (s).toNat)) + (k : Int)).toNat)))]) rfl ?_
                  refine j_iinc (pc := 82) dX2_misread_82 rfl (by decide) (lo' := [some (.ref o), some (IV s), some (IV (z + 0)), some (IV ((k : Int) + 1)), some (IV ((sBoxed (setI σ 43 0) s (k : Int)) - (σ.2 29 ((6 * (σ.2 32 (s).toNat)) + (k : Int)).toNat)))]) rfl ?_
                  refine j_goto (pc := 85) (tgt := 32) dX2_misread_85 (by decide) ?_
                  refine j_sub (lo' := [some (.ref o), some (IV s), some (IV (z + 0)), some (IV ((k : Int) + 1)), none]) ⟨Or.inr rfl, Or.inr rfl, Or.inr rfl, Or.inr rfl, Or.inl rfl, trivial⟩ ?_
                  exact ih_32 (k + 1) (z + 0) (by omega) (by omega) (by refine Or.inr ⟨by omega, ?_⟩; simp only [sMis]; have e9 : sBoxed (setI σ 43 0) s k = sBoxed σ s k := sInB_ext (σ := σ) (u := setI σ 43 0) rfl s k _; split <;> omega)
                · refine j_iload (pc := 74) dX2_misread_74 rfl ?_
                  refine j_goto (pc := 76) (tgt := 80) dX2_misread_76 (by decide) ?_
                  refine j_iadd (pc := 80) dX2_misread_80 ?_
                  refine j_istore_n (pc := 81) dX2_misread_81 (by decide) (lo' := [some (.ref o), some (IV s), some (IV (z + ((sBoxed (setI σ 43 0) s (k : Int)) - (σ.2 29 ((6 * (σ.2 32 (s).toNat)) + (k : Int)).toNat)))), some (IV (k : Int)), some (IV ((sBoxed (setI σ 43 0) s (k : Int)) - (σ.2 29 ((6 * (σ.2 32 (s).toNat)) + (k : Int)).toNat)))]) rfl ?_
                  refine j_iinc (pc := 82) dX2_misread_82 rfl (by decide) (lo' := [some (.ref o), some (IV s), some (IV (z + ((sBoxed (setI σ 43 0) s (k : Int)) - (σ.2 29 ((6 * (σ.2 32 (s).toNat)) + (k : Int)).toNat)))), some (IV ((k : Int) + 1)), some (IV ((sBoxed (setI σ 43 0) s (k : Int)) - (σ.2 29 ((6 * (σ.2 32 (s).toNat)) + (k : Int)).toNat)))]) rfl ?_
                  refine j_goto (pc := 85) (tgt := 32) dX2_misread_85 (by decide) ?_
                  refine j_sub (lo' := [some (.ref o), some (IV s), some (IV (z + ((sBoxed (setI σ 43 0) s (k : Int)) - (σ.2 29 ((6 * (σ.2 32 (s).toNat)) + (k : Int)).toNat)))), some (IV ((k : Int) + 1)), none]) ⟨Or.inr rfl, Or.inr rfl, Or.inr rfl, Or.inr rfl, Or.inl rfl, trivial⟩ ?_
                  exact ih_32 (k + 1) (z + ((sBoxed (setI σ 43 0) s (k : Int)) - (σ.2 29 ((6 * (σ.2 32 (s).toNat)) + (k : Int)).toNat))) (by omega) (by omega) (by refine Or.inr ⟨by omega, ?_⟩; simp only [sMis]; have e9 : sBoxed (setI σ 43 0) s k = sBoxed σ s k := sInB_ext (σ := σ) (u := setI σ 43 0) rfl s k _; split <;> omega)
        exact hl_32 _ 0 0 (Nat.lt_succ_self _) (by omega) (by first | exact Or.inl ⟨by omega, rfl⟩ | exact Or.inr ⟨by omega, rfl⟩)
      · refine j_iconst (pc := 24) dX2_misread_24 rfl ?_
        refine j_goto (pc := 25) (tgt := 29) dX2_misread_25 (by decide) ?_
        refine j_istore_n (pc := 29) dX2_misread_29 (by decide) (lo' := [some (.ref o), some (IV s), some (IV (-1)), none, none]) rfl ?_
        refine j_iconst (pc := 30) dX2_misread_30 rfl ?_
        refine j_istore_n (pc := 31) dX2_misread_31 (by decide) (lo' := [some (.ref o), some (IV s), some (IV (-1)), some (IV 0), none]) rfl ?_
        have hl_32 : ∀ (fu : Nat) (k : Nat) (z : Int), 6 - k < fu → k ≤ 6 → (σ.2 32 s.toNat = -1 ∧ z = -1) ∨ (σ.2 32 s.toNat ≠ -1 ∧ z = sMis σ s k) → J Γ (AM o ad) (RepM Γ o ad) l RX2 "misread" cX2_misread 5 (some .int) [] 4 0 0 QP X0 0 0 (setI σ 43 0) 32 [some (.ref o), some (IV s), some (IV z), some (IV (k : Int)), none] [] := by
          intro fu
          induction fu with
          | zero => intro k z hm; exact absurd hm (Nat.not_lt_zero _)
          | succ fu ih_32 =>
            intro k z hm hk hz
            have hr := sMis_rng hB s k
            have hq32 : -1 ≤ σ.2 32 s.toNat ∧ σ.2 32 s.toNat ≤ 39 := hB.2 32 s.toNat
            refine j_iload_n (pc := 32) dX2_misread_32 rfl ?_
            refine j_bipush (pc := 33) (a := 6) dX2_misread_33 (by decide) ?_
            refine j_icmp_ge (pc := 35) (tgt := 88) dX2_misread_35 (by decide) (by omega) (by decide) (fun c_35_1 => ?_) (fun c_35_1 => ?_)
            · obtain rfl : k = 6 := by omega
              refine j_iload_n (pc := 88) dX2_misread_88 rfl ?_
              refine j_iret (pc := 89) rfl (hQ _ _ ?_) dX2_misread_89
              exact Or.inl ⟨by unfold t1; (repeat' split) <;> omega, by split <;> omega, rfl⟩
            · refine j_iload_n (pc := 38) dX2_misread_38 rfl ?_
              refine j_iconst (pc := 39) dX2_misread_39 rfl ?_
              refine j_icmp_eq (pc := 40) (tgt := 88) dX2_misread_40 (by decide) (by omega) (by decide) (fun c_40_1 => ?_) (fun c_40_1 => ?_)
              · refine j_iload_n (pc := 88) dX2_misread_88 rfl ?_
                refine j_iret (pc := 89) rfl (hQ _ _ ?_) dX2_misread_89
                exact Or.inl ⟨by unfold t1; (repeat' split) <;> omega, by split <;> omega, rfl⟩
              · refine j_aload_n (pc := 43) dX2_misread_43 rfl ?_
                refine j_iload_n (pc := 44) dX2_misread_44 rfl ?_
                refine j_iload_n (pc := 45) dX2_misread_45 rfl ?_
                refine j_callV (pc := 46) (m_inBox (setI σ 43 0) s (k : Int) (by omega) (by omega) (Bd.i hB (by show 0 ≤ 0 ∧ 0 ≤ (3 : Int); omega))) (lw_V q1722 q1724 qs38 q48 q1725) rfl md_yX2_inBox (RC.ofM _ rfl) (by decide) (by decide) rfl (Nat.le_of_ble_eq_true rfl) dX2_misread_46 (qI.k (fun r_46_1 s_46_1 q_46_1 => ?_))
                obtain ⟨e1q_46_1, e2q_46_1⟩ := q_46_1
                subst r_46_1
                subst s_46_1
                have rs_46 := sBoxed_rng (σ := setI σ 43 0) (Bd.i hB (by show 0 ≤ 0 ∧ 0 ≤ (3 : Int); omega)) s (k : Int)
                have e9 : sBoxed (setI σ 43 0) s k = sBoxed σ s k := sInB_ext (σ := σ) (u := setI σ 43 0) rfl s k _
                refine j_aload_n (pc := 49) dX2_misread_49 rfl ?_
                refine m_getA (pc := 50) fa_X2_72_X2 (by decide) (by decide) dX2_misread_50 ?_
                refine j_bipush (pc := 53) (a := 6) dX2_misread_53 (by decide) ?_
                refine j_aload_n (pc := 55) dX2_misread_55 rfl ?_
                refine m_getA (pc := 56) fa_X2_81_X2 (by decide) (by decide) dX2_misread_56 ?_
                refine j_iload_n (pc := 59) dX2_misread_59 rfl ?_
                refine m_ld (pc := 60) (v := σ.2 32 (s).toNat) (by decide) (by decide) rfl (by show 0 ≤ s ∧ s < ((5 : Nat) : Int); omega) rfl dX2_misread_60 ?_
                refine j_imul (pc := 61) dX2_misread_61 ?_
                refine j_iload_n (pc := 62) dX2_misread_62 rfl ?_
                refine j_iadd (pc := 63) dX2_misread_63 ?_
                refine m_ld (pc := 64) (v := σ.2 29 ((6 * (σ.2 32 (s).toNat)) + (k : Int)).toNat) (by decide) (by decide) rfl (by show 0 ≤ (6 * (σ.2 32 (s).toNat)) + (k : Int) ∧ (6 * (σ.2 32 (s).toNat)) + (k : Int) < ((240 : Nat) : Int); omega) rfl dX2_misread_64 ?_
                have n_3 : 0 ≤ σ.2 29 ((6 * (σ.2 32 (s).toNat)) + (k : Int)).toNat ∧ σ.2 29 ((6 * (σ.2 32 (s).toNat)) + (k : Int)).toNat ≤ 20 := hB.2 29 (((6 * (σ.2 32 (s).toNat)) + (k : Int)).toNat)
                refine j_isub (pc := 65) dX2_misread_65 ?_
                refine j_istore (pc := 66) dX2_misread_66 (by decide) (lo' := [some (.ref o), some (IV s), some (IV z), some (IV (k : Int)), some (IV ((sBoxed (setI σ 43 0) s (k : Int)) - (σ.2 29 ((6 * (σ.2 32 (s).toNat)) + (k : Int)).toNat)))]) rfl ?_
                refine j_iload_n (pc := 68) dX2_misread_68 rfl ?_
                refine j_iload (pc := 69) dX2_misread_69 rfl ?_
                refine j_if_le (pc := 71) (tgt := 79) dX2_misread_71 (by decide) (by omega) (fun c_71_1 => ?_) (fun c_71_1 => ?_)
                · refine j_iconst (pc := 79) dX2_misread_79 rfl ?_
                  refine j_iadd (pc := 80) dX2_misread_80 ?_
                  refine j_istore_n (pc := 81) dX2_misread_81 (by decide) (lo' := [some (.ref o), some (IV s), some (IV (z + 0)), some (IV (k : Int)), some (IV ((sBoxed (setI σ 43 0) s (k : Int)) - (σ.2 29 ((6 * (σ.2 32 (s).toNat)) + (k : Int)).toNat)))]) rfl ?_
                  refine j_iinc (pc := 82) dX2_misread_82 rfl (by decide) (lo' := [some (.ref o), some (IV s), some (IV (z + 0)), some (IV ((k : Int) + 1)), some (IV ((sBoxed (setI σ 43 0) s (k : Int)) - (σ.2 29 ((6 * (σ.2 32 (s).toNat)) + (k : Int)).toNat)))]) rfl ?_
                  refine j_goto (pc := 85) (tgt := 32) dX2_misread_85 (by decide) ?_
                  refine j_sub (lo' := [some (.ref o), some (IV s), some (IV (z + 0)), some (IV ((k : Int) + 1)), none]) ⟨Or.inr rfl, Or.inr rfl, Or.inr rfl, Or.inr rfl, Or.inl rfl, trivial⟩ ?_
                  exact ih_32 (k + 1) (z + 0) (by omega) (by omega) (by refine Or.inr ⟨by omega, ?_⟩; simp only [sMis]; have e9 : sBoxed (setI σ 43 0) s k = sBoxed σ s k := sInB_ext (σ := σ) (u := setI σ 43 0) rfl s k _; split <;> omega)
                · refine j_iload (pc := 74) dX2_misread_74 rfl ?_
                  refine j_goto (pc := 76) (tgt := 80) dX2_misread_76 (by decide) ?_
                  refine j_iadd (pc := 80) dX2_misread_80 ?_
                  refine j_istore_n (pc := 81) dX2_misread_81 (by decide) (lo' := [some (.ref o), some (IV s), some (IV (z + ((sBoxed (setI σ 43 0) s (k : Int)) - (σ.2 29 ((6 * (σ.2 32 (s).toNat)) + (k : Int)).toNat)))), some (IV (k : Int)), some (IV ((sBoxed (setI σ 43 0) s (k : Int)) - (σ.2 29 ((6 * (σ.2 32 (s).toNat)) + (k : Int)).toNat)))]) rfl ?_
                  refine j_iinc (pc := 82) dX2_misread_82 rfl (by decide) (lo' := [some (.ref o), some (IV s), some (IV (z + ((sBoxed (setI σ 43 0) s (k : Int)) - (σ.2 29 ((6 * (σ.2 32 (s).toNat)) + (k : Int)).toNat)))), some (IV ((k : Int) + 1)), some (IV ((sBoxed (setI σ 43 0) s (k : Int)) - (σ.2 29 ((6 * (σ.2 32 (s).toNat)) + (k : Int)).toNat)))]) rfl ?_
                  refine j_goto (pc := 85) (tgt := 32) dX2_misread_85 (by decide) ?_
                  refine j_sub (lo' := [some (.ref o), some (IV s), some (IV (z + ((sBoxed (setI σ 43 0) s (k : Int)) - (σ.2 29 ((6 * (σ.2 32 (s).toNat)) + (k : Int)).toNat)))), some (IV ((k : Int) + 1)), none]) ⟨Or.inr rfl, Or.inr rfl, Or.inr rfl, Or.inr rfl, Or.inl rfl, trivial⟩ ?_
                  exact ih_32 (k + 1) (z + ((sBoxed (setI σ 43 0) s (k : Int)) - (σ.2 29 ((6 * (σ.2 32 (s).toNat)) + (k : Int)).toNat))) (by omega) (by omega) (by refine Or.inr ⟨by omega, ?_⟩; simp only [sMis]; have e9 : sBoxed (setI σ 43 0) s k = sBoxed σ s k := sInB_ext (σ := σ) (u := setI σ 43 0) rfl s k _; split <;> omega)
        exact hl_32 _ 0 (-1) (Nat.lt_succ_self _) (by omega) (by first | exact Or.inl ⟨by omega, rfl⟩ | exact Or.inr ⟨by omega, rfl⟩)
    · exact absurd c_9 (by decide)
  · have q_6_0 := bI_or ((0 ≤ s ∧ s ≤ σ.1 6 - 1))
    refine j_if_ne (pc := 9) (tgt := 14) dX2_misread_9 (by decide) (by decide) (fun c_9_1 => ?_) (fun c_9_1 => ?_)
    · exact absurd c_9_1 (by decide)
    · refine j_iconst (pc := 12) dX2_misread_12 rfl ?_
      refine j_iret (pc := 13) rfl (hQ _ _ ?_) dX2_misread_13
      exact Or.inr ⟨by unfold t1; (repeat' split) <;> omega, rfl, by congr 1; unfold t1; (repeat' split) <;> omega⟩

theorem fa_X2_187_X2 : FA RX2 187 1 17 := ⟨RX2, TX2, 44, "BallotFoundryModel", rfl, in_X2, by decide, q1405, Or.inl rfl⟩
theorem fa_X2_90_X2 : FA RX2 90 1 35 := ⟨RX2, TX2, 44, "BallotFoundryModel", rfl, in_X2, by decide, q1423, Or.inl rfl⟩
set_option maxHeartbeats 4000000 in
theorem m_divisor {Γ : GG} {l : Launch} {o : Nat} {ad : Nat → Nat} (σ : MM) (p : Int) (hp : 0 ≤ p ∧ p ≤ 4) (hB : Bd σ) : Ct Γ (AM o ad) (RepM Γ o ad) l yX2_divisor (ws_ yX2_divisor cX2_divisor 2 (some .int)) 1 0 0 [.ref o, IV p] σ (qI (fun (r : Int) (σ' : MM) => r = hDiv (σ.1 17) (σ.2 35) p ∧ σ' = σ)) X0 := by
  refine Ct.ofJ (own := RX2) (nm := "divisor") (lo := [some (.ref o), some (IV p)]) pn_X2 rfl rfl (List.forall_mem_cons.mpr ⟨rfl, (List.forall_mem_cons.mpr ⟨rfl, (fun _ h => nomatch h)⟩)⟩) (Nat.le_of_ble_eq_true rfl) rfl ?_
  have hQ : ∀ (r : Int) (σ' : MM), (r = hDiv (σ.1 17) (σ.2 35) p ∧ σ' = σ) → (qI (fun (r : Int) (σ' : MM) => r = hDiv (σ.1 17) (σ.2 35) p ∧ σ' = σ)) (some (IV r)) σ' := fun r σ' h => ⟨r, rfl, h⟩
  generalize (qI (fun (r : Int) (σ' : MM) => r = hDiv (σ.1 17) (σ.2 35) p ∧ σ' = σ)) = QP at hQ ⊢
  refine j_aload_n (pc := 0) dX2_divisor_0 rfl ?_
  refine m_getI (pc := 1) (v := σ.1 17) fa_X2_187_X2 (by decide) rfl rfl dX2_divisor_1 ?_
  have n_1 : 0 ≤ σ.1 17 ∧ σ.1 17 ≤ 1 := hB.1 17
  refine j_if_eq (pc := 4) (tgt := 20) dX2_divisor_4 (by decide) (by omega) (fun c_4 => ?_) (fun c_4 => ?_)
  · refine j_aload_n (pc := 20) dX2_divisor_20 rfl ?_
    refine m_getA (pc := 21) fa_X2_90_X2 (by decide) (by decide) dX2_divisor_21 ?_
    refine j_iload_n (pc := 24) dX2_divisor_24 rfl ?_
    refine m_ld (pc := 25) (v := σ.2 35 (p).toNat) (by decide) (by decide) rfl (by show 0 ≤ p ∧ p < ((5 : Nat) : Int); omega) rfl dX2_divisor_25 ?_
    have n_2 : 0 ≤ σ.2 35 (p).toNat ∧ σ.2 35 (p).toNat ≤ 30 := hB.2 35 ((p).toNat)
    refine j_iconst (pc := 26) dX2_divisor_26 rfl ?_
    refine j_iadd (pc := 27) dX2_divisor_27 ?_
    refine j_iret (pc := 28) rfl (hQ _ _ ?_) dX2_divisor_28
    exact ⟨by unfold hDiv; split <;> first | rfl | omega, rfl⟩
  · refine j_iconst (pc := 7) dX2_divisor_7 rfl ?_
    refine j_aload_n (pc := 8) dX2_divisor_8 rfl ?_
    refine m_getA (pc := 9) fa_X2_90_X2 (by decide) (by decide) dX2_divisor_9 ?_
    refine j_iload_n (pc := 12) dX2_divisor_12 rfl ?_
    refine m_ld (pc := 13) (v := σ.2 35 (p).toNat) (by decide) (by decide) rfl (by show 0 ≤ p ∧ p < ((5 : Nat) : Int); omega) rfl dX2_divisor_13 ?_
    have n_3 : 0 ≤ σ.2 35 (p).toNat ∧ σ.2 35 (p).toNat ≤ 30 := hB.2 35 ((p).toNat)
    refine j_imul (pc := 14) dX2_divisor_14 ?_
    refine j_iconst (pc := 15) dX2_divisor_15 rfl ?_
    refine j_iadd (pc := 16) dX2_divisor_16 ?_
    refine j_goto (pc := 17) (tgt := 28) dX2_divisor_17 (by decide) ?_
    refine j_iret (pc := 28) rfl (hQ _ _ ?_) dX2_divisor_28
    exact ⟨by unfold hDiv; split <;> first | rfl | omega, rfl⟩

theorem fa_X2_87_X2 : FA RX2 87 1 34 := ⟨RX2, TX2, 44, "BallotFoundryModel", rfl, in_X2, by decide, q1422, Or.inl rfl⟩
theorem md_yX2_divisor : MD yX2_divisor 1 := by decide +kernel
set_option maxHeartbeats 4000000 in
theorem m_beyond {Γ : GG} {l : Launch} {o : Nat} {ad : Nat → Nat} (σ : MM) (a b : Int) (ha : 0 ≤ a ∧ a ≤ 4) (hb : 0 ≤ b ∧ b ≤ 4) (hB : Bd σ) : Ct Γ (AM o ad) (RepM Γ o ad) l yX2_beyond (ws_ yX2_beyond cX2_beyond 3 (some .int)) 2 0 0 [.ref o, IV a, IV b] σ (qI (fun (r : Int) (σ' : MM) => r = hCmp (σ.2 34) (σ.1 17) (σ.2 35) a b ∧ σ' = σ)) X0 := by
  refine Ct.ofJ (own := RX2) (nm := "beyond") (lo := [some (.ref o), some (IV a), some (IV b)]) pn_X2 rfl rfl (List.forall_mem_cons.mpr ⟨rfl, (List.forall_mem_cons.mpr ⟨rfl, (List.forall_mem_cons.mpr ⟨rfl, (fun _ h => nomatch h)⟩)⟩)⟩) (Nat.le_of_ble_eq_true rfl) rfl ?_
  have hQ : ∀ (r : Int) (σ' : MM), (r = hCmp (σ.2 34) (σ.1 17) (σ.2 35) a b ∧ σ' = σ) → (qI (fun (r : Int) (σ' : MM) => r = hCmp (σ.2 34) (σ.1 17) (σ.2 35) a b ∧ σ' = σ)) (some (IV r)) σ' := fun r σ' h => ⟨r, rfl, h⟩
  generalize (qI (fun (r : Int) (σ' : MM) => r = hCmp (σ.2 34) (σ.1 17) (σ.2 35) a b ∧ σ' = σ)) = QP at hQ ⊢
  refine j_aload_n (pc := 0) dX2_beyond_0 rfl ?_
  refine m_getA (pc := 1) fa_X2_87_X2 (by decide) (by decide) dX2_beyond_1 ?_
  refine j_iload_n (pc := 4) dX2_beyond_4 rfl ?_
  refine m_ld (pc := 5) (v := σ.2 34 (a).toNat) (by decide) (by decide) rfl (by show 0 ≤ a ∧ a < ((5 : Nat) : Int); omega) rfl dX2_beyond_5 ?_
  have n_1 : 0 ≤ σ.2 34 (a).toNat ∧ σ.2 34 (a).toNat ≤ 100 := hB.2 34 ((a).toNat)
  refine j_aload_n (pc := 6) dX2_beyond_6 rfl ?_
  refine j_iload_n (pc := 7) dX2_beyond_7 rfl ?_
  refine j_callV (pc := 8) (m_divisor σ b (by omega) hB) (lw_V q1745 q1747 qs42 q48 q1748) rfl md_yX2_divisor (RC.ofM _ rfl) (by decide) (by decide) rfl (Nat.le_of_ble_eq_true rfl) dX2_beyond_8 (qI.k (fun r_8 s_8 q_8 => ?_))
  obtain ⟨e1q_8, e2q_8⟩ := q_8
  subst r_8
  subst s_8
  refine j_imul (pc := 11) dX2_beyond_11 ?_
  refine j_aload_n (pc := 12) dX2_beyond_12 rfl ?_
  refine m_getA (pc := 13) fa_X2_87_X2 (by decide) (by decide) dX2_beyond_13 ?_
  refine j_iload_n (pc := 16) dX2_beyond_16 rfl ?_
  refine m_ld (pc := 17) (v := σ.2 34 (b).toNat) (by decide) (by decide) rfl (by show 0 ≤ b ∧ b < ((5 : Nat) : Int); omega) rfl dX2_beyond_17 ?_
  have n_2 : 0 ≤ σ.2 34 (b).toNat ∧ σ.2 34 (b).toNat ≤ 100 := hB.2 34 ((b).toNat)
  refine j_aload_n (pc := 18) dX2_beyond_18 rfl ?_
  refine j_iload_n (pc := 19) dX2_beyond_19 rfl ?_
  refine j_callV (pc := 20) (m_divisor σ a (by omega) hB) (lw_V q1745 q1747 qs42 q48 q1748) rfl md_yX2_divisor (RC.ofM _ rfl) (by decide) (by decide) rfl (Nat.le_of_ble_eq_true rfl) dX2_beyond_20 (qI.k (fun r_20 s_20 q_20 => ?_))
  obtain ⟨e1q_20, e2q_20⟩ := q_20
  subst r_20
  subst s_20
  refine j_imul (pc := 23) dX2_beyond_23 ?_
  refine j_isub (pc := 24) dX2_beyond_24 ?_
  refine j_iret (pc := 25) rfl (hQ _ _ ?_) dX2_beyond_25
  exact ⟨rfl, rfl⟩

theorem fp_X2_220_X2 : FP RX2 220 1 37 (.int) false := ⟨RX2, TX2, 44, "BallotFoundryModel", tyX2, rfl, in_X2, by decide, q1425, Or.inl rfl, tyX2_ok, nmX2, rfl, rfl, fun h => nomatch h⟩
theorem fp_X2_223_X2 : FP RX2 223 1 38 (.int) false := ⟨RX2, TX2, 44, "BallotFoundryModel", tyX2, rfl, in_X2, by decide, q1426, Or.inl rfl, tyX2_ok, nmX2, rfl, rfl, fun h => nomatch h⟩
theorem fa_X2_220_X2 : FA RX2 220 1 37 := ⟨RX2, TX2, 44, "BallotFoundryModel", rfl, in_X2, by decide, q1425, Or.inl rfl⟩
theorem fa_X2_184_X2 : FA RX2 184 1 16 := ⟨RX2, TX2, 44, "BallotFoundryModel", rfl, in_X2, by decide, q1404, Or.inl rfl⟩
theorem md_yX2_beyond : MD yX2_beyond 2 := by decide +kernel
theorem fa_X2_93_X2 : FA RX2 93 1 36 := ⟨RX2, TX2, 44, "BallotFoundryModel", rfl, in_X2, by decide, q1424, Or.inl rfl⟩
theorem fa_X2_223_X2 : FA RX2 223 1 38 := ⟨RX2, TX2, 44, "BallotFoundryModel", rfl, in_X2, by decide, q1426, Or.inl rfl⟩
set_option maxHeartbeats 4000000 in
theorem m_gives {Γ : GG} {l : Launch} {o : Nat} {ad : Nat → Nat} (σ : MM) (b : Int) (hb : b = 0 ∨ b = 1) (hB : Bd σ) (hs : b = 0 → ∀ k : Nat, (k : Int) < σ.1 19 → σ.2 32 k ≠ -1) : Ct Γ (AM o ad) (RepM Γ o ad) l yX2_gives (ws_ yX2_gives cX2_gives 8 none) 3 0 0 [.ref o, IV b] σ (qV (fun (σ' : MM) => GP σ b σ')) X0 := by
  refine Ct.ofJ (own := RX2) (nm := "gives") (lo := [some (.ref o), some (IV b), none, none, none, none, none, none]) pn_X2 rfl rfl (List.forall_mem_cons.mpr ⟨rfl, (List.forall_mem_cons.mpr ⟨rfl, (fun _ h => nomatch h)⟩)⟩) (Nat.le_of_ble_eq_true rfl) rfl ?_
  have hQ : ∀ (σ' : MM), (GP σ b σ') → (qV (fun (σ' : MM) => GP σ b σ')) none σ' := fun σ' h => ⟨rfl, h⟩
  generalize (qV (fun (σ' : MM) => GP σ b σ')) = QP at hQ ⊢
  have n19 : 0 ≤ σ.1 19 ∧ σ.1 19 ≤ 5 := hB.1 19
  have n16 : 0 ≤ σ.1 16 ∧ σ.1 16 ≤ 30 := hB.1 16
  refine j_iconst (pc := 0) dX2_gives_0 rfl ?_
  refine j_istore_n (pc := 1) dX2_gives_1 (by decide) (lo' := [some (.ref o), some (IV b), some (IV 0), none, none, none, none, none]) rfl ?_
  refine j_iconst (pc := 2) dX2_gives_2 rfl ?_
  refine j_istore_n (pc := 3) dX2_gives_3 (by decide) (lo' := [some (.ref o), some (IV b), some (IV 0), some (IV 0), none, none, none, none]) rfl ?_
  have hl_4 : ∀ (fu : Nat) (p : Nat) (s : MM) (lk : Int), 5 - p < fu → p ≤ 5 → GS σ s → Bd s → (∀ j : Nat, j < p → s.2 34 j = sVo σ b j) → (∀ j : Nat, j < p → s.2 35 j = 0) → lk = sumN (σ.2 18) p → J Γ (AM o ad) (RepM Γ o ad) l RX2 "gives" cX2_gives 8 none [] 3 0 0 QP X0 0 0 s 4 [some (.ref o), some (IV b), some (IV lk), some (IV (p : Int)), none, none, none, none] [] := by
    intro fu
    induction fu with
    | zero => intro p s lk hm; exact absurd hm (Nat.not_lt_zero _)
    | succ fu ih_4 =>
      intro p s lk hm hp hG hS h34 h35 hl
      refine j_iload_n (pc := 4) dX2_gives_4 rfl ?_
      refine j_iconst (pc := 5) dX2_gives_5 rfl ?_
      refine j_icmp_ge (pc := 6) (tgt := 96) dX2_gives_6 (by decide) (by omega) (by decide) (fun c_6 => ?_) (fun c_6 => ?_)
      · obtain rfl : p = 5 := by omega
        have h0 : GH σ b 0 (setI (setI s 37 0) 38 0) lk := ⟨(hG.i (Or.inl rfl)).i (Or.inr rfl), (hS.i (by show (0 : Int) ≤ 0 ∧ (0 : Int) ≤ 30; decide)).i (by show (0 : Int) ≤ 0 ∧ (0 : Int) ≤ 30; decide), h34, h35, rfl, rfl, fun i hi => absurd hi (Nat.not_lt_zero _), hl⟩
        have v0 := h34 0 (by decide)
        have v1 := h34 1 (by decide)
        have v2 := h34 2 (by decide)
        have v3 := h34 3 (by decide)
        have v4 := h34 4 (by decide)
        refine j_aload_n (pc := 96) dX2_gives_96 rfl ?_
        refine j_iconst (pc := 97) dX2_gives_97 rfl ?_
        refine m_putI (pc := 98) fp_X2_220_X2 (by decide) rfl dX2_gives_98 ?_
        refine j_aload_n (pc := 101) dX2_gives_101 rfl ?_
        refine j_iconst (pc := 102) dX2_gives_102 rfl ?_
        refine m_putI (pc := 103) fp_X2_223_X2 (by decide) rfl dX2_gives_103 ?_
        refine j_aload_n (pc := 106) dX2_gives_106 rfl ?_
        refine m_getA (pc := 107) fa_X2_87_X2 (by decide) (by decide) dX2_gives_107 ?_
        refine j_iconst (pc := 110) dX2_gives_110 rfl ?_
        refine m_ld (pc := 111) (v := s.2 34 0) (by decide) (by decide) rfl (by decide) rfl dX2_gives_111 ?_
        have n_1 : 0 ≤ s.2 34 0 ∧ s.2 34 0 ≤ 100 := hS.2 34 0
        refine j_aload_n (pc := 112) dX2_gives_112 rfl ?_
        refine m_getA (pc := 113) fa_X2_87_X2 (by decide) (by decide) dX2_gives_113 ?_
        refine j_iconst (pc := 116) dX2_gives_116 rfl ?_
        refine m_ld (pc := 117) (v := s.2 34 1) (by decide) (by decide) rfl (by decide) rfl dX2_gives_117 ?_
        have n_2 : 0 ≤ s.2 34 1 ∧ s.2 34 1 ≤ 100 := hS.2 34 1
        refine j_iadd (pc := 118) dX2_gives_118 ?_
        refine j_aload_n (pc := 119) dX2_gives_119 rfl ?_
        refine m_getA (pc := 120) fa_X2_87_X2 (by decide) (by decide) dX2_gives_120 ?_
        refine j_iconst (pc := 123) dX2_gives_123 rfl ?_
        refine m_ld (pc := 124) (v := s.2 34 2) (by decide) (by decide) rfl (by decide) rfl dX2_gives_124 ?_
        have n_3 : 0 ≤ s.2 34 2 ∧ s.2 34 2 ≤ 100 := hS.2 34 2
        refine j_iadd (pc := 125) dX2_gives_125 ?_
        refine j_aload_n (pc := 126) dX2_gives_126 rfl ?_
        refine m_getA (pc := 127) fa_X2_87_X2 (by decide) (by decide) dX2_gives_127 ?_
        refine j_iconst (pc := 130) dX2_gives_130 rfl ?_
        refine m_ld (pc := 131) (v := s.2 34 3) (by decide) (by decide) rfl (by decide) rfl dX2_gives_131 ?_
        have n_4 : 0 ≤ s.2 34 3 ∧ s.2 34 3 ≤ 100 := hS.2 34 3
        refine j_iadd (pc := 132) dX2_gives_132 ?_
        refine j_aload_n (pc := 133) dX2_gives_133 rfl ?_
        refine m_getA (pc := 134) fa_X2_87_X2 (by decide) (by decide) dX2_gives_134 ?_
        refine j_iconst (pc := 137) dX2_gives_137 rfl ?_
        refine m_ld (pc := 138) (v := s.2 34 4) (by decide) (by decide) rfl (by decide) rfl dX2_gives_138 ?_
        have n_5 : 0 ≤ s.2 34 4 ∧ s.2 34 4 ≤ 100 := hS.2 34 4
        refine j_iadd (pc := 139) dX2_gives_139 ?_
        have hl_149 : ∀ (fu : Nat) (n : Nat) (t : MM) (y : Int) (w : Int), 30 - n < fu → GH σ b n t y → (w = 1 ∧ 0 < sVo σ b 0 + sVo σ b 1 + sVo σ b 2 + sVo σ b 3 + sVo σ b 4 ∧ (n : Int) ≤ σ.1 16) ∨ (w = 0 ∧ ¬ 0 < sVo σ b 0 + sVo σ b 1 + sVo σ b 2 + sVo σ b 3 + sVo σ b 4 ∧ n = 0) → J Γ (AM o ad) (RepM Γ o ad) l RX2 "gives" cX2_gives 8 none [] 3 0 0 QP X0 0 0 t 149 [some (.ref o), some (IV b), some (IV y), some (IV w), none, none, none, none] [] := by
          intro fu
          induction fu with
          | zero => intro n t y w hm; exact absurd hm (Nat.not_lt_zero _)
          | succ fu ih_149 =>
            intro n t y w hm hH hw
            have hBt : Bd t := hH.2.1
            have hGt := hH.1
            have f37 : t.1 37 = n := hH.2.2.2.2.1
            have f16 : t.1 16 = σ.1 16 := hGt.1 16 (by decide) (by decide)
            have hn30 : n ≤ 30 := by omega
            have hk9 := hH.ok hB hn30
            have yr : 0 ≤ y ∧ y ≤ 65535 := by rw [hH.2.2.2.2.2.2.2]; exact (hN_rng (sVo σ b) (σ.1 17) (l := sumN (σ.2 18) 5) (by have := seeds_rng hB; omega) n).2.2.2.1
            have f38 : 0 ≤ t.1 38 ∧ t.1 38 ≤ n := by rw [hH.2.2.2.2.2.1]; exact (hN_rng (sVo σ b) (σ.1 17) (l := sumN (σ.2 18) 5) (by have := seeds_rng hB; omega) n).2.2.1
            have hgn : ∀ p : Nat, p < 5 → t.2 35 p ≤ n := fun p hp => by rw [hH.2.2.2.1 p hp]; have h5 := hN_rng (sVo σ b) (σ.1 17) (l := sumN (σ.2 18) 5) (by have := seeds_rng hB; omega) n; have h6 := sumN_at h5.1 (j := p) 5 hp; have := h5.2.1; omega
            refine j_iload_n (pc := 149) dX2_gives_149 rfl ?_
            refine j_if_eq (pc := 150) (tgt := 362) dX2_gives_150 (by decide) (by omega) (fun c_150 => ?_) (fun c_150 => ?_)
            · refine j_vret (pc := 362) rfl (hQ _ ?_) dX2_gives_362
              have e9 : sHn σ b = n := by unfold sHn; split <;> omega
              exact ⟨y, by rw [e9]; exact hH⟩
            · refine j_aload_n (pc := 153) dX2_gives_153 rfl ?_
              refine m_getI (pc := 154) (v := t.1 37) fa_X2_220_X2 (by decide) rfl rfl dX2_gives_154 ?_
              have n_6 : 0 ≤ t.1 37 ∧ t.1 37 ≤ 30 := hBt.1 37
              refine j_aload_n (pc := 157) dX2_gives_157 rfl ?_
              refine m_getI (pc := 158) (v := t.1 16) fa_X2_184_X2 (by decide) rfl rfl dX2_gives_158 ?_
              have n_7 : 0 ≤ t.1 16 ∧ t.1 16 ≤ 30 := hBt.1 16
              refine j_icmp_ge (pc := 161) (tgt := 362) dX2_gives_161 (by decide) (by omega) (by omega) (fun c_161 => ?_) (fun c_161 => ?_)
              · refine j_vret (pc := 362) rfl (hQ _ ?_) dX2_gives_362
                have e9 : sHn σ b = n := by unfold sHn; split <;> omega
                exact ⟨y, by rw [e9]; exact hH⟩
              · refine j_iconst (pc := 164) dX2_gives_164 rfl ?_
                refine j_istore (pc := 165) dX2_gives_165 (by decide) (lo' := [some (.ref o), some (IV b), some (IV y), some (IV w), some (IV 0), none, none, none]) rfl ?_
                refine j_iconst (pc := 167) dX2_gives_167 rfl ?_
                refine j_istore (pc := 168) dX2_gives_168 (by decide) (lo' := [some (.ref o), some (IV b), some (IV y), some (IV w), some (IV 0), some (IV 0), none, none]) rfl ?_
                refine j_iconst (pc := 170) dX2_gives_170 rfl ?_
                refine j_istore (pc := 171) dX2_gives_171 (by decide) (lo' := [some (.ref o), some (IV b), some (IV y), some (IV w), some (IV 0), some (IV 0), some (IV 0), none]) rfl ?_
                have hl_173 : ∀ (fu : Nat) (q : Nat) (bst : Int) (tie : Int), 5 - q < fu → q ≤ 5 → (bst, tie) = hBT (t.2 34) (t.1 17) (t.2 35) q → J Γ (AM o ad) (RepM Γ o ad) l RX2 "gives" cX2_gives 8 none [] 3 0 0 QP X0 0 0 t 173 [some (.ref o), some (IV b), some (IV y), some (IV w), some (IV bst), some (IV tie), some (IV (q : Int)), none] [] := by
                  intro fu
                  induction fu with
                  | zero => intro q bst tie hm; exact absurd hm (Nat.not_lt_zero _)
                  | succ fu ih_173 =>
                    intro q bst tie hm hq hbt
                    have hbr := hBT_rng (t.2 34) (t.1 17) (t.2 35) q
                    rw [← hbt] at hbr
                    have hbr2 := hLi_le (t.2 34) (t.1 17) (t.2 35) bst q
                    obtain ⟨hbr0, hbr1, hbr3⟩ := hbr
                    have hbr1 : bst < q ∨ bst = 0 := hbr1
                    have hbr0 : 0 ≤ bst := hbr0
                    have hbr3 : tie = hLi (t.2 34) (t.1 17) (t.2 35) bst q := hbr3
                    refine j_iload (pc := 173) dX2_gives_173 rfl ?_
                    refine j_iconst (pc := 175) dX2_gives_175 rfl ?_
                    refine j_icmp_ge (pc := 176) (tgt := 242) dX2_gives_176 (by decide) (by omega) (by decide) (fun c_176 => ?_) (fun c_176 => ?_)
                    · obtain rfl : q = 5 := by omega
                      have hb5 := hBT_5 (t.2 34) (t.1 17) (t.2 35)
                      rw [← hbt] at hb5
                      obtain ⟨hb50, hb51, hb52, hb53, hb54⟩ := hb5
                      have hb50 : 0 ≤ bst := hb50
                      have hb51 : bst ≤ 4 := hb51
                      have hb52 : 1 ≤ tie := hb52
                      have hb53 : tie ≤ 5 := hb53
                      have hb54 : tie = hLi (t.2 34) (t.1 17) (t.2 35) bst 5 := hb54
                      refine j_iconst (pc := 242) dX2_gives_242 rfl ?_
                      refine j_istore (pc := 243) dX2_gives_243 (by decide) (lo' := [some (.ref o), some (IV b), some (IV y), some (IV w), some (IV bst), some (IV tie), some (IV 0), none]) rfl ?_
                      refine j_iload (pc := 245) dX2_gives_245 rfl ?_
                      refine j_iconst (pc := 247) dX2_gives_247 rfl ?_
                      refine j_icmp_le (pc := 248) (tgt := 280) dX2_gives_248 (by decide) (by omega) (by decide) (fun c_248 => ?_) (fun c_248 => ?_)
                      · obtain ⟨P, hP0⟩ : ∃ P : Int, P = hPk (t.2 34) (t.1 17) (t.2 35) bst (5 - bst.toNat) 0 := ⟨_, rfl⟩
                        refine j_iload (pc := 280) dX2_gives_280 rfl ?_
                        refine j_istore (pc := 282) dX2_gives_282 (by decide) (lo' := [some (.ref o), some (IV b), some (IV y), some (IV w), some (IV bst), some (IV tie), some (IV 0), some (IV bst)]) rfl ?_
                        have hl_284 : ∀ (fu : Nat) (f : Nat) (q : Nat) (pl : Int), f < fu → q + f = 5 → bst ≤ q → 0 ≤ pl ∧ pl < hLi (t.2 34) (t.1 17) (t.2 35) bst 5 - hLi (t.2 34) (t.1 17) (t.2 35) bst q → hPk (t.2 34) (t.1 17) (t.2 35) bst f pl = P → J Γ (AM o ad) (RepM Γ o ad) l RX2 "gives" cX2_gives 8 none [] 3 0 0 QP X0 0 0 t 284 [some (.ref o), some (IV b), some (IV y), some (IV w), some (IV bst), some (IV tie), some (IV pl), some (IV (q : Int))] [] := by
                          intro fu
                          induction fu with
                          | zero => intro f q pl hm; exact absurd hm (Nat.not_lt_zero _)
                          | succ fu ih_284 =>
                            intro f q pl hm hq hqb hpl hP
                            have hq7 := hLi_le (t.2 34) (t.1 17) (t.2 35) bst 5
                            have hq8 := hLi_le (t.2 34) (t.1 17) (t.2 35) bst q
                            have hq4 : q ≤ 4 := by rcases Nat.lt_or_ge q 5 with h | h; omega; (rw [show q = 5 by omega] at hpl; omega)
                            obtain ⟨f, rfl⟩ : ∃ f9, f = f9 + 1 := ⟨f - 1, by omega⟩
                            refine j_iload (pc := 284) dX2_gives_284 rfl ?_
                            refine j_if_gt (pc := 286) (tgt := 300) dX2_gives_286 (by decide) (by omega) (fun c_286 => ?_) (fun c_286 => ?_)
                            · refine j_iload (pc := 300) dX2_gives_300 rfl ?_
                              refine j_aload_n (pc := 302) dX2_gives_302 rfl ?_
                              refine j_iload (pc := 303) dX2_gives_303 rfl ?_
                              refine j_iload (pc := 305) dX2_gives_305 rfl ?_
                              refine j_callV (pc := 307) (m_beyond t (q : Int) bst (by omega) (by omega) hBt) (lw_V q1741 q1743 qs41 q48 q1744) rfl md_yX2_beyond (RC.ofM _ rfl) (by decide) (by decide) rfl (Nat.le_of_ble_eq_true rfl) dX2_gives_307 (qI.k (fun r_307 s_307 q_307 => ?_))
                              obtain ⟨e1q_307, e2q_307⟩ := q_307
                              subst s_307
                              have e3q_307 : r_307 = hCmp (t.2 34) (t.1 17) (t.2 35) (q : Int) bst := e1q_307
                              clear e1q_307
                              subst r_307
                              have rb_307 := hCmp_rng hk9 (t.1 17) (a := (q : Int)) (b := bst) (by omega) (by omega)
                              refine j_if_ne (pc := 310) (tgt := 317) dX2_gives_310 (by decide) (by omega) (fun c_310 => ?_) (fun c_310 => ?_)
                              · refine j_iconst (pc := 317) dX2_gives_317 rfl ?_
                                refine j_isub (pc := 318) dX2_gives_318 ?_
                                refine j_istore (pc := 319) dX2_gives_319 (by decide) (lo' := [some (.ref o), some (IV b), some (IV y), some (IV w), some (IV bst), some (IV tie), some (IV (pl - 0)), some (IV (q : Int))]) rfl ?_
                                refine j_iinc (pc := 321) dX2_gives_321 rfl (by decide) (lo' := [some (.ref o), some (IV b), some (IV y), some (IV w), some (IV bst), some (IV tie), some (IV (pl - 0)), some (IV ((q : Int) + 1))]) rfl ?_
                                refine j_goto (pc := 324) (tgt := 284) dX2_gives_324 (by decide) ?_
                                have hst := hPk_go hP hq hqb hpl (pl' := pl - 0) (by omega)
                                exact ih_284 f (q + 1) (pl - 0) (by omega) (by omega) (by omega) hst.2 hst.1
                              · refine j_iconst (pc := 313) dX2_gives_313 rfl ?_
                                refine j_goto (pc := 314) (tgt := 318) dX2_gives_314 (by decide) ?_
                                refine j_isub (pc := 318) dX2_gives_318 ?_
                                refine j_istore (pc := 319) dX2_gives_319 (by decide) (lo' := [some (.ref o), some (IV b), some (IV y), some (IV w), some (IV bst), some (IV tie), some (IV (pl - 1)), some (IV (q : Int))]) rfl ?_
                                refine j_iinc (pc := 321) dX2_gives_321 rfl (by decide) (lo' := [some (.ref o), some (IV b), some (IV y), some (IV w), some (IV bst), some (IV tie), some (IV (pl - 1)), some (IV ((q : Int) + 1))]) rfl ?_
                                refine j_goto (pc := 324) (tgt := 284) dX2_gives_324 (by decide) ?_
                                have hst := hPk_go hP hq hqb hpl (pl' := pl - 1) (by omega)
                                exact ih_284 f (q + 1) (pl - 1) (by omega) (by omega) (by omega) hst.2 hst.1
                            · refine j_aload_n (pc := 289) dX2_gives_289 rfl ?_
                              refine j_iload (pc := 290) dX2_gives_290 rfl ?_
                              refine j_iload (pc := 292) dX2_gives_292 rfl ?_
                              refine j_callV (pc := 294) (m_beyond t (q : Int) bst (by omega) (by omega) hBt) (lw_V q1741 q1743 qs41 q48 q1744) rfl md_yX2_beyond (RC.ofM _ rfl) (by decide) (by decide) rfl (Nat.le_of_ble_eq_true rfl) dX2_gives_294 (qI.k (fun r_294 s_294 q_294 => ?_))
                              obtain ⟨e1q_294, e2q_294⟩ := q_294
                              subst s_294
                              have e3q_294 : r_294 = hCmp (t.2 34) (t.1 17) (t.2 35) (q : Int) bst := e1q_294
                              clear e1q_294
                              subst r_294
                              have rb_294 := hCmp_rng hk9 (t.1 17) (a := (q : Int)) (b := bst) (by omega) (by omega)
                              refine j_if_eq (pc := 297) (tgt := 327) dX2_gives_297 (by decide) (by omega) (fun c_297 => ?_) (fun c_297 => ?_)
                              · have hPq := hPk_stop hP hq (by omega) (by omega)
                                subst hPq
                                have hgq := hgn q (by omega)
                                refine j_aload_n (pc := 327) dX2_gives_327 rfl ?_
                                refine m_getA (pc := 328) fa_X2_90_X2 (by decide) (by decide) dX2_gives_328 ?_
                                refine j_iload (pc := 331) dX2_gives_331 rfl ?_
                                refine j_dup2 (pc := 333) dX2_gives_333 rfl rfl ?_
                                refine m_ld (pc := 334) (v := t.2 35 q) (by decide) (by decide) rfl (by show 0 ≤ (q : Int) ∧ (q : Int) < ((5 : Nat) : Int); omega) rfl dX2_gives_334 ?_
                                have n_8 : 0 ≤ t.2 35 q ∧ t.2 35 q ≤ 30 := hBt.2 35 q
                                refine j_iconst (pc := 335) dX2_gives_335 rfl ?_
                                refine j_iadd (pc := 336) dX2_gives_336 ?_
                                refine m_st (pc := 337) (by decide) (by decide) rfl (by show 0 ≤ (q : Int) ∧ (q : Int) < ((5 : Nat) : Int); omega) dX2_gives_337 ?_
                                refine j_aload_n (pc := 338) dX2_gives_338 rfl ?_
                                refine m_getA (pc := 339) fa_X2_93_X2 (by decide) (by decide) dX2_gives_339 ?_
                                refine j_aload_n (pc := 342) dX2_gives_342 rfl ?_
                                refine m_getI (pc := 343) (v := t.1 37) fa_X2_220_X2 (by decide) rfl rfl dX2_gives_343 ?_
                                refine j_iload (pc := 346) dX2_gives_346 rfl ?_
                                refine m_st (pc := 348) (by decide) (by decide) rfl (by show 0 ≤ t.1 37 ∧ t.1 37 < ((30 : Nat) : Int); omega) dX2_gives_348 ?_
                                refine j_aload_n (pc := 349) dX2_gives_349 rfl ?_
                                refine j_dup (pc := 350) dX2_gives_350 rfl ?_
                                refine m_getI (pc := 351) (v := t.1 37) fa_X2_220_X2 (by decide) rfl rfl dX2_gives_351 ?_
                                refine j_iconst (pc := 354) dX2_gives_354 rfl ?_
                                refine j_iadd (pc := 355) dX2_gives_355 ?_
                                refine m_putI (pc := 356) fp_X2_220_X2 (by decide) rfl dX2_gives_356 ?_
                                refine j_goto (pc := 359) (tgt := 149) dX2_gives_359 (by decide) ?_
                                refine j_sub (lo' := [some (.ref o), some (IV b), some (IV y), some (IV w), none, none, none, none]) ⟨Or.inr rfl, Or.inr rfl, Or.inr rfl, Or.inr rfl, Or.inl rfl, Or.inl rfl, Or.inl rfl, Or.inl rfl, trivial⟩ ?_
                                exact ih_149 (n + 1) (setI (setA (setA t 35 q ((t.2 35 q) + 1)) 36 (t.1 37).toNat (q : Int)) 37 ((t.1 37) + 1)) y w (by omega) (by have h9 := GH.step hB hH (by omega) (L := t.1 38) (ties := tie) (best := bst) (l' := y) (pl := 0) (P := (q : Int)) hbt (by rw [if_neg (by omega)]) (by rw [if_neg (by omega)]) hP0 (by rw [if_neg (by omega)]); rw [setI_self] at h9; rw [f37]; exact h9) (by omega)
                              · refine j_iload (pc := 300) dX2_gives_300 rfl ?_
                                refine j_aload_n (pc := 302) dX2_gives_302 rfl ?_
                                refine j_iload (pc := 303) dX2_gives_303 rfl ?_
                                refine j_iload (pc := 305) dX2_gives_305 rfl ?_
                                refine j_callV (pc := 307) (m_beyond t (q : Int) bst (by omega) (by omega) hBt) (lw_V q1741 q1743 qs41 q48 q1744) rfl md_yX2_beyond (RC.ofM _ rfl) (by decide) (by decide) rfl (Nat.le_of_ble_eq_true rfl) dX2_gives_307 (qI.k (fun r_307_1 s_307_1 q_307_1 => ?_))
                                obtain ⟨e1q_307_1, e2q_307_1⟩ := q_307_1
                                subst s_307_1
                                have e3q_307_1 : r_307_1 = hCmp (t.2 34) (t.1 17) (t.2 35) (q : Int) bst := e1q_307_1
                                clear e1q_307_1
                                subst r_307_1
                                have rb_307 := hCmp_rng hk9 (t.1 17) (a := (q : Int)) (b := bst) (by omega) (by omega)
                                refine j_if_ne (pc := 310) (tgt := 317) dX2_gives_310 (by decide) (by omega) (fun c_310_1 => ?_) (fun c_310_1 => ?_)
                                · refine j_iconst (pc := 317) dX2_gives_317 rfl ?_
                                  refine j_isub (pc := 318) dX2_gives_318 ?_
                                  refine j_istore (pc := 319) dX2_gives_319 (by decide) (lo' := [some (.ref o), some (IV b), some (IV y), some (IV w), some (IV bst), some (IV tie), some (IV (pl - 0)), some (IV (q : Int))]) rfl ?_
                                  refine j_iinc (pc := 321) dX2_gives_321 rfl (by decide) (lo' := [some (.ref o), some (IV b), some (IV y), some (IV w), some (IV bst), some (IV tie), some (IV (pl - 0)), some (IV ((q : Int) + 1))]) rfl ?_
                                  refine j_goto (pc := 324) (tgt := 284) dX2_gives_324 (by decide) ?_
                                  have hst := hPk_go hP hq hqb hpl (pl' := pl - 0) (by omega)
                                  exact ih_284 f (q + 1) (pl - 0) (by omega) (by omega) (by omega) hst.2 hst.1
                                · refine j_iconst (pc := 313) dX2_gives_313 rfl ?_
                                  refine j_goto (pc := 314) (tgt := 318) dX2_gives_314 (by decide) ?_
                                  refine j_isub (pc := 318) dX2_gives_318 ?_
                                  refine j_istore (pc := 319) dX2_gives_319 (by decide) (lo' := [some (.ref o), some (IV b), some (IV y), some (IV w), some (IV bst), some (IV tie), some (IV (pl - 1)), some (IV (q : Int))]) rfl ?_
                                  refine j_iinc (pc := 321) dX2_gives_321 rfl (by decide) (lo' := [some (.ref o), some (IV b), some (IV y), some (IV w), some (IV bst), some (IV tie), some (IV (pl - 1)), some (IV ((q : Int) + 1))]) rfl ?_
                                  refine j_goto (pc := 324) (tgt := 284) dX2_gives_324 (by decide) ?_
                                  have hst := hPk_go hP hq hqb hpl (pl' := pl - 1) (by omega)
                                  exact ih_284 f (q + 1) (pl - 1) (by omega) (by omega) (by omega) hst.2 hst.1
                        have h9 := hl_284 _ (5 - bst.toNat) bst.toNat 0 (Nat.lt_succ_self _) (by omega) (by omega) (by rw [hLi_0 _ _ _ bst bst.toNat (by omega)]; omega) hP0.symm; rw [show ((bst.toNat : Nat) : Int) = bst by omega] at h9; exact h9
                      · refine j_iload_n (pc := 251) dX2_gives_251 rfl ?_
                        refine j_sipush (pc := 252) (a := 1103) dX2_gives_252 (by decide) ?_
                        refine j_imul (pc := 255) dX2_gives_255 ?_
                        refine j_sipush (pc := 256) (a := 12345) dX2_gives_256 (by decide) ?_
                        refine j_iadd (pc := 259) dX2_gives_259 ?_
                        refine j_ldc (pc := 260) (a := 65536) q1749 dX2_gives_260 (by decide) ?_
                        refine j_irem (pc := 262) dX2_gives_262 (by omega) (by omega) ?_
                        refine j_nameI (fun x_263 ex_263 => ?_)
                        refine j_istore_n (pc := 263) dX2_gives_263 (by decide) (lo' := [some (.ref o), some (IV b), some (IV x_263), some (IV w), some (IV bst), some (IV tie), some (IV 0), none]) rfl ?_
                        refine j_iload_n (pc := 264) dX2_gives_264 rfl ?_
                        refine j_iload (pc := 265) dX2_gives_265 rfl ?_
                        refine j_irem (pc := 267) dX2_gives_267 (by omega) (by omega) ?_
                        refine j_nameI (fun x_268 ex_268 => ?_)
                        refine j_istore (pc := 268) dX2_gives_268 (by decide) (lo' := [some (.ref o), some (IV b), some (IV x_263), some (IV w), some (IV bst), some (IV tie), some (IV x_268), none]) rfl ?_
                        refine j_aload_n (pc := 270) dX2_gives_270 rfl ?_
                        refine j_dup (pc := 271) dX2_gives_271 rfl ?_
                        refine m_getI (pc := 272) (v := t.1 38) fa_X2_223_X2 (by decide) rfl rfl dX2_gives_272 ?_
                        have n_9 : 0 ≤ t.1 38 ∧ t.1 38 ≤ 30 := hBt.1 38
                        refine j_iconst (pc := 275) dX2_gives_275 rfl ?_
                        refine j_iadd (pc := 276) dX2_gives_276 ?_
                        refine m_putI (pc := 277) fp_X2_223_X2 (by decide) rfl dX2_gives_277 ?_
                        have hp8 := Int.emod_nonneg x_263 (b := tie) (by omega)
                        have hp9 := Int.emod_lt_of_pos x_263 (b := tie) (by omega)
                        obtain ⟨P, hP0⟩ : ∃ P : Int, P = hPk (t.2 34) (t.1 17) (t.2 35) bst (5 - bst.toNat) x_268 := ⟨_, rfl⟩
                        refine j_iload (pc := 280) dX2_gives_280 rfl ?_
                        refine j_istore (pc := 282) dX2_gives_282 (by decide) (lo' := [some (.ref o), some (IV b), some (IV x_263), some (IV w), some (IV bst), some (IV tie), some (IV x_268), some (IV bst)]) rfl ?_
                        have hl_284 : ∀ (fu : Nat) (f : Nat) (q : Nat) (pl : Int), f < fu → q + f = 5 → bst ≤ q → 0 ≤ pl ∧ pl < hLi (t.2 34) (t.1 17) (t.2 35) bst 5 - hLi (t.2 34) (t.1 17) (t.2 35) bst q → hPk (t.2 34) (t.1 17) (t.2 35) bst f pl = P → J Γ (AM o ad) (RepM Γ o ad) l RX2 "gives" cX2_gives 8 none [] 3 0 0 QP X0 0 0 (setI t 38 ((t.1 38) + 1)) 284 [some (.ref o), some (IV b), some (IV x_263), some (IV w), some (IV bst), some (IV tie), some (IV pl), some (IV (q : Int))] [] := by
                          intro fu
                          induction fu with
                          | zero => intro f q pl hm; exact absurd hm (Nat.not_lt_zero _)
                          | succ fu ih_284 =>
                            intro f q pl hm hq hqb hpl hP
                            have hq7 := hLi_le (t.2 34) (t.1 17) (t.2 35) bst 5
                            have hq8 := hLi_le (t.2 34) (t.1 17) (t.2 35) bst q
                            have hq4 : q ≤ 4 := by rcases Nat.lt_or_ge q 5 with h | h; omega; (rw [show q = 5 by omega] at hpl; omega)
                            obtain ⟨f, rfl⟩ : ∃ f9, f = f9 + 1 := ⟨f - 1, by omega⟩
                            refine j_iload (pc := 284) dX2_gives_284 rfl ?_
                            refine j_if_gt (pc := 286) (tgt := 300) dX2_gives_286 (by decide) (by omega) (fun c_286_1 => ?_) (fun c_286_1 => ?_)
                            · refine j_iload (pc := 300) dX2_gives_300 rfl ?_
                              refine j_aload_n (pc := 302) dX2_gives_302 rfl ?_
                              refine j_iload (pc := 303) dX2_gives_303 rfl ?_
                              refine j_iload (pc := 305) dX2_gives_305 rfl ?_
                              refine j_callV (pc := 307) (m_beyond (setI t 38 ((t.1 38) + 1)) (q : Int) bst (by omega) (by omega) (Bd.i hBt (by show 0 ≤ (t.1 38) + 1 ∧ (t.1 38) + 1 ≤ (30 : Int); omega))) (lw_V q1741 q1743 qs41 q48 q1744) rfl md_yX2_beyond (RC.ofM _ rfl) (by decide) (by decide) rfl (Nat.le_of_ble_eq_true rfl) dX2_gives_307 (qI.k (fun r_307_1 s_307_1 q_307_1 => ?_))
                              obtain ⟨e1q_307_1, e2q_307_1⟩ := q_307_1
                              subst s_307_1
                              have e3q_307_1 : r_307_1 = hCmp (t.2 34) (t.1 17) (t.2 35) (q : Int) bst := e1q_307_1
                              clear e1q_307_1
                              subst r_307_1
                              have rb_307 := hCmp_rng hk9 (t.1 17) (a := (q : Int)) (b := bst) (by omega) (by omega)
                              refine j_if_ne (pc := 310) (tgt := 317) dX2_gives_310 (by decide) (by omega) (fun c_310_1 => ?_) (fun c_310_1 => ?_)
                              · refine j_iconst (pc := 317) dX2_gives_317 rfl ?_
                                refine j_isub (pc := 318) dX2_gives_318 ?_
                                refine j_istore (pc := 319) dX2_gives_319 (by decide) (lo' := [some (.ref o), some (IV b), some (IV x_263), some (IV w), some (IV bst), some (IV tie), some (IV (pl - 0)), some (IV (q : Int))]) rfl ?_
                                refine j_iinc (pc := 321) dX2_gives_321 rfl (by decide) (lo' := [some (.ref o), some (IV b), some (IV x_263), some (IV w), some (IV bst), some (IV tie), some (IV (pl - 0)), some (IV ((q : Int) + 1))]) rfl ?_
                                refine j_goto (pc := 324) (tgt := 284) dX2_gives_324 (by decide) ?_
                                have hst := hPk_go hP hq hqb hpl (pl' := pl - 0) (by omega)
                                exact ih_284 f (q + 1) (pl - 0) (by omega) (by omega) (by omega) hst.2 hst.1
                              · refine j_iconst (pc := 313) dX2_gives_313 rfl ?_
                                refine j_goto (pc := 314) (tgt := 318) dX2_gives_314 (by decide) ?_
                                refine j_isub (pc := 318) dX2_gives_318 ?_
                                refine j_istore (pc := 319) dX2_gives_319 (by decide) (lo' := [some (.ref o), some (IV b), some (IV x_263), some (IV w), some (IV bst), some (IV tie), some (IV (pl - 1)), some (IV (q : Int))]) rfl ?_
                                refine j_iinc (pc := 321) dX2_gives_321 rfl (by decide) (lo' := [some (.ref o), some (IV b), some (IV x_263), some (IV w), some (IV bst), some (IV tie), some (IV (pl - 1)), some (IV ((q : Int) + 1))]) rfl ?_
                                refine j_goto (pc := 324) (tgt := 284) dX2_gives_324 (by decide) ?_
                                have hst := hPk_go hP hq hqb hpl (pl' := pl - 1) (by omega)
                                exact ih_284 f (q + 1) (pl - 1) (by omega) (by omega) (by omega) hst.2 hst.1
                            · refine j_aload_n (pc := 289) dX2_gives_289 rfl ?_
                              refine j_iload (pc := 290) dX2_gives_290 rfl ?_
                              refine j_iload (pc := 292) dX2_gives_292 rfl ?_
                              refine j_callV (pc := 294) (m_beyond (setI t 38 ((t.1 38) + 1)) (q : Int) bst (by omega) (by omega) (Bd.i hBt (by show 0 ≤ (t.1 38) + 1 ∧ (t.1 38) + 1 ≤ (30 : Int); omega))) (lw_V q1741 q1743 qs41 q48 q1744) rfl md_yX2_beyond (RC.ofM _ rfl) (by decide) (by decide) rfl (Nat.le_of_ble_eq_true rfl) dX2_gives_294 (qI.k (fun r_294_1 s_294_1 q_294_1 => ?_))
                              obtain ⟨e1q_294_1, e2q_294_1⟩ := q_294_1
                              subst s_294_1
                              have e3q_294_1 : r_294_1 = hCmp (t.2 34) (t.1 17) (t.2 35) (q : Int) bst := e1q_294_1
                              clear e1q_294_1
                              subst r_294_1
                              have rb_294 := hCmp_rng hk9 (t.1 17) (a := (q : Int)) (b := bst) (by omega) (by omega)
                              refine j_if_eq (pc := 297) (tgt := 327) dX2_gives_297 (by decide) (by omega) (fun c_297_1 => ?_) (fun c_297_1 => ?_)
                              · have hPq := hPk_stop hP hq (by omega) (by omega)
                                subst hPq
                                have hgq := hgn q (by omega)
                                refine j_aload_n (pc := 327) dX2_gives_327 rfl ?_
                                refine m_getA (pc := 328) fa_X2_90_X2 (by decide) (by decide) dX2_gives_328 ?_
                                refine j_iload (pc := 331) dX2_gives_331 rfl ?_
                                refine j_dup2 (pc := 333) dX2_gives_333 rfl rfl ?_
                                refine m_ld (pc := 334) (v := t.2 35 q) (by decide) (by decide) rfl (by show 0 ≤ (q : Int) ∧ (q : Int) < ((5 : Nat) : Int); omega) rfl dX2_gives_334 ?_
                                have n_10 : 0 ≤ t.2 35 q ∧ t.2 35 q ≤ 30 := hBt.2 35 q
                                refine j_iconst (pc := 335) dX2_gives_335 rfl ?_
                                refine j_iadd (pc := 336) dX2_gives_336 ?_
                                refine m_st (pc := 337) (by decide) (by decide) rfl (by show 0 ≤ (q : Int) ∧ (q : Int) < ((5 : Nat) : Int); omega) dX2_gives_337 ?_
                                refine j_aload_n (pc := 338) dX2_gives_338 rfl ?_
                                refine m_getA (pc := 339) fa_X2_93_X2 (by decide) (by decide) dX2_gives_339 ?_
                                refine j_aload_n (pc := 342) dX2_gives_342 rfl ?_
                                refine m_getI (pc := 343) (v := t.1 37) fa_X2_220_X2 (by decide) rfl rfl dX2_gives_343 ?_
                                refine j_iload (pc := 346) dX2_gives_346 rfl ?_
                                refine m_st (pc := 348) (by decide) (by decide) rfl (by show 0 ≤ t.1 37 ∧ t.1 37 < ((30 : Nat) : Int); omega) dX2_gives_348 ?_
                                refine j_aload_n (pc := 349) dX2_gives_349 rfl ?_
                                refine j_dup (pc := 350) dX2_gives_350 rfl ?_
                                refine m_getI (pc := 351) (v := t.1 37) fa_X2_220_X2 (by decide) rfl rfl dX2_gives_351 ?_
                                refine j_iconst (pc := 354) dX2_gives_354 rfl ?_
                                refine j_iadd (pc := 355) dX2_gives_355 ?_
                                refine m_putI (pc := 356) fp_X2_220_X2 (by decide) rfl dX2_gives_356 ?_
                                refine j_goto (pc := 359) (tgt := 149) dX2_gives_359 (by decide) ?_
                                refine j_sub (lo' := [some (.ref o), some (IV b), some (IV x_263), some (IV w), none, none, none, none]) ⟨Or.inr rfl, Or.inr rfl, Or.inr rfl, Or.inr rfl, Or.inl rfl, Or.inl rfl, Or.inl rfl, Or.inl rfl, trivial⟩ ?_
                                exact ih_149 (n + 1) (setI (setA (setA (setI t 38 ((t.1 38) + 1)) 35 q ((t.2 35 q) + 1)) 36 (t.1 37).toNat (q : Int)) 37 ((t.1 37) + 1)) x_263 w (by omega) (by have h9 := GH.step hB hH (by omega) (L := t.1 38 + 1) (ties := tie) (best := bst) (l' := x_263) (pl := x_268) (P := (q : Int)) hbt (by rw [if_pos (by omega)]; exact ex_263) (by rw [if_pos (by omega)]; exact ex_268) hP0 (by rw [if_pos (by omega)]); rw [f37]; exact h9) (by omega)
                              · refine j_iload (pc := 300) dX2_gives_300 rfl ?_
                                refine j_aload_n (pc := 302) dX2_gives_302 rfl ?_
                                refine j_iload (pc := 303) dX2_gives_303 rfl ?_
                                refine j_iload (pc := 305) dX2_gives_305 rfl ?_
                                refine j_callV (pc := 307) (m_beyond (setI t 38 ((t.1 38) + 1)) (q : Int) bst (by omega) (by omega) (Bd.i hBt (by show 0 ≤ (t.1 38) + 1 ∧ (t.1 38) + 1 ≤ (30 : Int); omega))) (lw_V q1741 q1743 qs41 q48 q1744) rfl md_yX2_beyond (RC.ofM _ rfl) (by decide) (by decide) rfl (Nat.le_of_ble_eq_true rfl) dX2_gives_307 (qI.k (fun r_307_1 s_307_1 q_307_1 => ?_))
                                obtain ⟨e1q_307_1, e2q_307_1⟩ := q_307_1
                                subst s_307_1
                                have e3q_307_1 : r_307_1 = hCmp (t.2 34) (t.1 17) (t.2 35) (q : Int) bst := e1q_307_1
                                clear e1q_307_1
                                subst r_307_1
                                have rb_307 := hCmp_rng hk9 (t.1 17) (a := (q : Int)) (b := bst) (by omega) (by omega)
                                refine j_if_ne (pc := 310) (tgt := 317) dX2_gives_310 (by decide) (by omega) (fun c_310_1 => ?_) (fun c_310_1 => ?_)
                                · refine j_iconst (pc := 317) dX2_gives_317 rfl ?_
                                  refine j_isub (pc := 318) dX2_gives_318 ?_
                                  refine j_istore (pc := 319) dX2_gives_319 (by decide) (lo' := [some (.ref o), some (IV b), some (IV x_263), some (IV w), some (IV bst), some (IV tie), some (IV (pl - 0)), some (IV (q : Int))]) rfl ?_
                                  refine j_iinc (pc := 321) dX2_gives_321 rfl (by decide) (lo' := [some (.ref o), some (IV b), some (IV x_263), some (IV w), some (IV bst), some (IV tie), some (IV (pl - 0)), some (IV ((q : Int) + 1))]) rfl ?_
                                  refine j_goto (pc := 324) (tgt := 284) dX2_gives_324 (by decide) ?_
                                  have hst := hPk_go hP hq hqb hpl (pl' := pl - 0) (by omega)
                                  exact ih_284 f (q + 1) (pl - 0) (by omega) (by omega) (by omega) hst.2 hst.1
                                · refine j_iconst (pc := 313) dX2_gives_313 rfl ?_
                                  refine j_goto (pc := 314) (tgt := 318) dX2_gives_314 (by decide) ?_
                                  refine j_isub (pc := 318) dX2_gives_318 ?_
                                  refine j_istore (pc := 319) dX2_gives_319 (by decide) (lo' := [some (.ref o), some (IV b), some (IV x_263), some (IV w), some (IV bst), some (IV tie), some (IV (pl - 1)), some (IV (q : Int))]) rfl ?_
                                  refine j_iinc (pc := 321) dX2_gives_321 rfl (by decide) (lo' := [some (.ref o), some (IV b), some (IV x_263), some (IV w), some (IV bst), some (IV tie), some (IV (pl - 1)), some (IV ((q : Int) + 1))]) rfl ?_
                                  refine j_goto (pc := 324) (tgt := 284) dX2_gives_324 (by decide) ?_
                                  have hst := hPk_go hP hq hqb hpl (pl' := pl - 1) (by omega)
                                  exact ih_284 f (q + 1) (pl - 1) (by omega) (by omega) (by omega) hst.2 hst.1
                        have h9 := hl_284 _ (5 - bst.toNat) bst.toNat x_268 (Nat.lt_succ_self _) (by omega) (by omega) (by rw [hLi_0 _ _ _ bst bst.toNat (by omega)]; omega) hP0.symm; rw [show ((bst.toNat : Nat) : Int) = bst by omega] at h9; exact h9
                    · refine j_aload_n (pc := 179) dX2_gives_179 rfl ?_
                      refine j_iload (pc := 180) dX2_gives_180 rfl ?_
                      refine j_iload (pc := 182) dX2_gives_182 rfl ?_
                      refine j_callV (pc := 184) (m_beyond t (q : Int) bst (by omega) (by omega) hBt) (lw_V q1741 q1743 qs41 q48 q1744) rfl md_yX2_beyond (RC.ofM _ rfl) (by decide) (by decide) rfl (Nat.le_of_ble_eq_true rfl) dX2_gives_184 (qI.k (fun r_184 s_184 q_184 => ?_))
                      obtain ⟨e1q_184, e2q_184⟩ := q_184
                      subst s_184
                      have e3q_184 : r_184 = hCmp (t.2 34) (t.1 17) (t.2 35) (q : Int) bst := e1q_184
                      clear e1q_184
                      subst r_184
                      have rb_184 := hCmp_rng hk9 (t.1 17) (a := (q : Int)) (b := bst) (by omega) (by omega)
                      refine j_if_le (pc := 187) (tgt := 194) dX2_gives_187 (by decide) (by omega) (fun c_187 => ?_) (fun c_187 => ?_)
                      · refine j_aload_n (pc := 194) dX2_gives_194 rfl ?_
                        refine j_iload (pc := 195) dX2_gives_195 rfl ?_
                        refine j_iload (pc := 197) dX2_gives_197 rfl ?_
                        refine j_callV (pc := 199) (m_beyond t (q : Int) bst (by omega) (by omega) hBt) (lw_V q1741 q1743 qs41 q48 q1744) rfl md_yX2_beyond (RC.ofM _ rfl) (by decide) (by decide) rfl (Nat.le_of_ble_eq_true rfl) dX2_gives_199 (qI.k (fun r_199 s_199 q_199 => ?_))
                        obtain ⟨e1q_199, e2q_199⟩ := q_199
                        subst s_199
                        have e3q_199 : r_199 = hCmp (t.2 34) (t.1 17) (t.2 35) (q : Int) bst := e1q_199
                        clear e1q_199
                        subst r_199
                        have rb_199 := hCmp_rng hk9 (t.1 17) (a := (q : Int)) (b := bst) (by omega) (by omega)
                        refine j_if_ne (pc := 202) (tgt := 212) dX2_gives_202 (by decide) (by omega) (fun c_202 => ?_) (fun c_202 => ?_)
                        · refine j_iload (pc := 212) dX2_gives_212 rfl ?_
                          refine j_istore (pc := 214) dX2_gives_214 (by decide) (lo' := [some (.ref o), some (IV b), some (IV y), some (IV w), some (IV bst), some (IV tie), some (IV (q : Int)), none]) rfl ?_
                          refine j_aload_n (pc := 216) dX2_gives_216 rfl ?_
                          refine j_iload (pc := 217) dX2_gives_217 rfl ?_
                          refine j_iload (pc := 219) dX2_gives_219 rfl ?_
                          refine j_callV (pc := 221) (m_beyond t (q : Int) bst (by omega) (by omega) hBt) (lw_V q1741 q1743 qs41 q48 q1744) rfl md_yX2_beyond (RC.ofM _ rfl) (by decide) (by decide) rfl (Nat.le_of_ble_eq_true rfl) dX2_gives_221 (qI.k (fun r_221 s_221 q_221 => ?_))
                          obtain ⟨e1q_221, e2q_221⟩ := q_221
                          subst s_221
                          have e3q_221 : r_221 = hCmp (t.2 34) (t.1 17) (t.2 35) (q : Int) bst := e1q_221
                          clear e1q_221
                          subst r_221
                          have rb_221 := hCmp_rng hk9 (t.1 17) (a := (q : Int)) (b := bst) (by omega) (by omega)
                          refine j_if_le (pc := 224) (tgt := 232) dX2_gives_224 (by decide) (by omega) (fun c_224 => ?_) (fun c_224 => ?_)
                          · refine j_iload (pc := 232) dX2_gives_232 rfl ?_
                            refine j_istore (pc := 234) dX2_gives_234 (by decide) (lo' := [some (.ref o), some (IV b), some (IV y), some (IV w), some (IV bst), some (IV tie), some (IV (q : Int)), none]) rfl ?_
                            refine j_iinc (pc := 236) dX2_gives_236 rfl (by decide) (lo' := [some (.ref o), some (IV b), some (IV y), some (IV w), some (IV bst), some (IV tie), some (IV ((q : Int) + 1)), none]) rfl ?_
                            refine j_goto (pc := 239) (tgt := 173) dX2_gives_239 (by decide) ?_
                            exact ih_173 (q + 1) bst tie (by omega) (by omega) (by show _ = (if 0 < hCmp _ _ _ (q : Int) (hBT _ _ _ q).1 then _ else if hCmp _ _ _ (q : Int) (hBT _ _ _ q).1 = 0 then _ else _); rw [← hbt]; dsimp only; (repeat' split) <;> first | rfl | omega)
                          · refine j_iload (pc := 227) dX2_gives_227 rfl ?_
                            refine j_goto (pc := 229) (tgt := 234) dX2_gives_229 (by decide) ?_
                            refine j_istore (pc := 234) dX2_gives_234 (by decide) (lo' := [some (.ref o), some (IV b), some (IV y), some (IV w), some (IV (q : Int)), some (IV tie), some (IV (q : Int)), none]) rfl ?_
                            refine j_iinc (pc := 236) dX2_gives_236 rfl (by decide) (lo' := [some (.ref o), some (IV b), some (IV y), some (IV w), some (IV (q : Int)), some (IV tie), some (IV ((q : Int) + 1)), none]) rfl ?_
                            refine j_goto (pc := 239) (tgt := 173) dX2_gives_239 (by decide) ?_
                            exact ih_173 (q + 1) (q : Int) tie (by omega) (by omega) (by show _ = (if 0 < hCmp _ _ _ (q : Int) (hBT _ _ _ q).1 then _ else if hCmp _ _ _ (q : Int) (hBT _ _ _ q).1 = 0 then _ else _); rw [← hbt]; dsimp only; (repeat' split) <;> first | rfl | omega)
                        · refine j_iload (pc := 205) dX2_gives_205 rfl ?_
                          refine j_iconst (pc := 207) dX2_gives_207 rfl ?_
                          refine j_iadd (pc := 208) dX2_gives_208 ?_
                          refine j_goto (pc := 209) (tgt := 214) dX2_gives_209 (by decide) ?_
                          refine j_istore (pc := 214) dX2_gives_214 (by decide) (lo' := [some (.ref o), some (IV b), some (IV y), some (IV w), some (IV bst), some (IV (tie + 1)), some (IV (q : Int)), none]) rfl ?_
                          refine j_aload_n (pc := 216) dX2_gives_216 rfl ?_
                          refine j_iload (pc := 217) dX2_gives_217 rfl ?_
                          refine j_iload (pc := 219) dX2_gives_219 rfl ?_
                          refine j_callV (pc := 221) (m_beyond t (q : Int) bst (by omega) (by omega) hBt) (lw_V q1741 q1743 qs41 q48 q1744) rfl md_yX2_beyond (RC.ofM _ rfl) (by decide) (by decide) rfl (Nat.le_of_ble_eq_true rfl) dX2_gives_221 (qI.k (fun r_221_1 s_221_1 q_221_1 => ?_))
                          obtain ⟨e1q_221_1, e2q_221_1⟩ := q_221_1
                          subst s_221_1
                          have e3q_221_1 : r_221_1 = hCmp (t.2 34) (t.1 17) (t.2 35) (q : Int) bst := e1q_221_1
                          clear e1q_221_1
                          subst r_221_1
                          have rb_221 := hCmp_rng hk9 (t.1 17) (a := (q : Int)) (b := bst) (by omega) (by omega)
                          refine j_if_le (pc := 224) (tgt := 232) dX2_gives_224 (by decide) (by omega) (fun c_224_1 => ?_) (fun c_224_1 => ?_)
                          · refine j_iload (pc := 232) dX2_gives_232 rfl ?_
                            refine j_istore (pc := 234) dX2_gives_234 (by decide) (lo' := [some (.ref o), some (IV b), some (IV y), some (IV w), some (IV bst), some (IV (tie + 1)), some (IV (q : Int)), none]) rfl ?_
                            refine j_iinc (pc := 236) dX2_gives_236 rfl (by decide) (lo' := [some (.ref o), some (IV b), some (IV y), some (IV w), some (IV bst), some (IV (tie + 1)), some (IV ((q : Int) + 1)), none]) rfl ?_
                            refine j_goto (pc := 239) (tgt := 173) dX2_gives_239 (by decide) ?_
                            exact ih_173 (q + 1) bst (tie + 1) (by omega) (by omega) (by show _ = (if 0 < hCmp _ _ _ (q : Int) (hBT _ _ _ q).1 then _ else if hCmp _ _ _ (q : Int) (hBT _ _ _ q).1 = 0 then _ else _); rw [← hbt]; dsimp only; (repeat' split) <;> first | rfl | omega)
                          · refine j_iload (pc := 227) dX2_gives_227 rfl ?_
                            refine j_goto (pc := 229) (tgt := 234) dX2_gives_229 (by decide) ?_
                            refine j_istore (pc := 234) dX2_gives_234 (by decide) (lo' := [some (.ref o), some (IV b), some (IV y), some (IV w), some (IV (q : Int)), some (IV (tie + 1)), some (IV (q : Int)), none]) rfl ?_
                            refine j_iinc (pc := 236) dX2_gives_236 rfl (by decide) (lo' := [some (.ref o), some (IV b), some (IV y), some (IV w), some (IV (q : Int)), some (IV (tie + 1)), some (IV ((q : Int) + 1)), none]) rfl ?_
                            refine j_goto (pc := 239) (tgt := 173) dX2_gives_239 (by decide) ?_
                            exact ih_173 (q + 1) (q : Int) (tie + 1) (by omega) (by omega) (by show _ = (if 0 < hCmp _ _ _ (q : Int) (hBT _ _ _ q).1 then _ else if hCmp _ _ _ (q : Int) (hBT _ _ _ q).1 = 0 then _ else _); rw [← hbt]; dsimp only; (repeat' split) <;> first | rfl | omega)
                      · refine j_iconst (pc := 190) dX2_gives_190 rfl ?_
                        refine j_goto (pc := 191) (tgt := 214) dX2_gives_191 (by decide) ?_
                        refine j_istore (pc := 214) dX2_gives_214 (by decide) (lo' := [some (.ref o), some (IV b), some (IV y), some (IV w), some (IV bst), some (IV 1), some (IV (q : Int)), none]) rfl ?_
                        refine j_aload_n (pc := 216) dX2_gives_216 rfl ?_
                        refine j_iload (pc := 217) dX2_gives_217 rfl ?_
                        refine j_iload (pc := 219) dX2_gives_219 rfl ?_
                        refine j_callV (pc := 221) (m_beyond t (q : Int) bst (by omega) (by omega) hBt) (lw_V q1741 q1743 qs41 q48 q1744) rfl md_yX2_beyond (RC.ofM _ rfl) (by decide) (by decide) rfl (Nat.le_of_ble_eq_true rfl) dX2_gives_221 (qI.k (fun r_221_1 s_221_1 q_221_1 => ?_))
                        obtain ⟨e1q_221_1, e2q_221_1⟩ := q_221_1
                        subst s_221_1
                        have e3q_221_1 : r_221_1 = hCmp (t.2 34) (t.1 17) (t.2 35) (q : Int) bst := e1q_221_1
                        clear e1q_221_1
                        subst r_221_1
                        have rb_221 := hCmp_rng hk9 (t.1 17) (a := (q : Int)) (b := bst) (by omega) (by omega)
                        refine j_if_le (pc := 224) (tgt := 232) dX2_gives_224 (by decide) (by omega) (fun c_224_1 => ?_) (fun c_224_1 => ?_)
                        · refine j_iload (pc := 232) dX2_gives_232 rfl ?_
                          refine j_istore (pc := 234) dX2_gives_234 (by decide) (lo' := [some (.ref o), some (IV b), some (IV y), some (IV w), some (IV bst), some (IV 1), some (IV (q : Int)), none]) rfl ?_
                          refine j_iinc (pc := 236) dX2_gives_236 rfl (by decide) (lo' := [some (.ref o), some (IV b), some (IV y), some (IV w), some (IV bst), some (IV 1), some (IV ((q : Int) + 1)), none]) rfl ?_
                          refine j_goto (pc := 239) (tgt := 173) dX2_gives_239 (by decide) ?_
                          exact ih_173 (q + 1) bst 1 (by omega) (by omega) (by show _ = (if 0 < hCmp _ _ _ (q : Int) (hBT _ _ _ q).1 then _ else if hCmp _ _ _ (q : Int) (hBT _ _ _ q).1 = 0 then _ else _); rw [← hbt]; dsimp only; (repeat' split) <;> first | rfl | omega)
                        · refine j_iload (pc := 227) dX2_gives_227 rfl ?_
                          refine j_goto (pc := 229) (tgt := 234) dX2_gives_229 (by decide) ?_
                          refine j_istore (pc := 234) dX2_gives_234 (by decide) (lo' := [some (.ref o), some (IV b), some (IV y), some (IV w), some (IV (q : Int)), some (IV 1), some (IV (q : Int)), none]) rfl ?_
                          refine j_iinc (pc := 236) dX2_gives_236 rfl (by decide) (lo' := [some (.ref o), some (IV b), some (IV y), some (IV w), some (IV (q : Int)), some (IV 1), some (IV ((q : Int) + 1)), none]) rfl ?_
                          refine j_goto (pc := 239) (tgt := 173) dX2_gives_239 (by decide) ?_
                          exact ih_173 (q + 1) (q : Int) 1 (by omega) (by omega) (by show _ = (if 0 < hCmp _ _ _ (q : Int) (hBT _ _ _ q).1 then _ else if hCmp _ _ _ (q : Int) (hBT _ _ _ q).1 = 0 then _ else _); rw [← hbt]; dsimp only; (repeat' split) <;> first | rfl | omega)
                exact hl_173 _ 0 0 0 (Nat.lt_succ_self _) (by omega) rfl
        refine j_if_le (pc := 140) (tgt := 147) dX2_gives_140 (by decide) (by omega) (fun c_140 => ?_) (fun c_140 => ?_)
        · refine j_iconst (pc := 147) dX2_gives_147 rfl ?_
          refine j_istore_n (pc := 148) dX2_gives_148 (by decide) (lo' := [some (.ref o), some (IV b), some (IV lk), some (IV 0), none, none, none, none]) rfl ?_
          exact hl_149 _ 0 (setI (setI s 37 0) 38 0) lk 0 (Nat.lt_succ_self _) h0 (by omega)
        · refine j_iconst (pc := 143) dX2_gives_143 rfl ?_
          refine j_goto (pc := 144) (tgt := 148) dX2_gives_144 (by decide) ?_
          refine j_istore_n (pc := 148) dX2_gives_148 (by decide) (lo' := [some (.ref o), some (IV b), some (IV lk), some (IV 1), none, none, none, none]) rfl ?_
          exact hl_149 _ 0 (setI (setI s 37 0) 38 0) lk 1 (Nat.lt_succ_self _) h0 (by omega)
      · refine j_aload_n (pc := 9) dX2_gives_9 rfl ?_
        refine m_getA (pc := 10) fa_X2_87_X2 (by decide) (by decide) dX2_gives_10 ?_
        refine j_iload_n (pc := 13) dX2_gives_13 rfl ?_
        refine j_iconst (pc := 14) dX2_gives_14 rfl ?_
        refine m_st (pc := 15) (by decide) (by decide) rfl (by show 0 ≤ (p : Int) ∧ (p : Int) < ((5 : Nat) : Int); omega) dX2_gives_15 ?_
        refine j_aload_n (pc := 16) dX2_gives_16 rfl ?_
        refine m_getA (pc := 17) fa_X2_90_X2 (by decide) (by decide) dX2_gives_17 ?_
        refine j_iload_n (pc := 20) dX2_gives_20 rfl ?_
        refine j_iconst (pc := 21) dX2_gives_21 rfl ?_
        refine m_st (pc := 22) (by decide) (by decide) rfl (by show 0 ≤ (p : Int) ∧ (p : Int) < ((5 : Nat) : Int); omega) dX2_gives_22 ?_
        refine j_iload_n (pc := 23) dX2_gives_23 rfl ?_
        refine j_aload_n (pc := 24) dX2_gives_24 rfl ?_
        refine m_getA (pc := 25) fa_X2_45_X2 (by decide) (by decide) dX2_gives_25 ?_
        refine j_iload_n (pc := 28) dX2_gives_28 rfl ?_
        refine m_ld (pc := 29) (v := s.2 18 p) (by decide) (by decide) rfl (by show 0 ≤ (p : Int) ∧ (p : Int) < ((5 : Nat) : Int); omega) rfl dX2_gives_29 ?_
        have n_11 : 0 ≤ s.2 18 p ∧ s.2 18 p ≤ 9999 := hS.2 18 p
        refine j_iadd (pc := 30) dX2_gives_30 ?_
        refine j_istore_n (pc := 31) dX2_gives_31 (by decide) (lo' := [some (.ref o), some (IV b), some (IV (lk + (s.2 18 p))), some (IV (p : Int)), none, none, none, none]) rfl ?_
        refine j_iconst (pc := 32) dX2_gives_32 rfl ?_
        refine j_istore (pc := 33) dX2_gives_33 (by decide) (lo' := [some (.ref o), some (IV b), some (IV (lk + (s.2 18 p))), some (IV (p : Int)), some (IV 0), none, none, none]) rfl ?_
        have hl_35 : ∀ (fu : Nat) (k : Nat) (u : MM), 5 - k < fu → (k : Int) ≤ σ.1 19 → GS σ u → Bd u → (∀ j : Nat, j < p → u.2 34 j = sVo σ b j) → (∀ j : Nat, j ≤ p → u.2 35 j = 0) → u.2 34 p = sVoN σ b p k → J Γ (AM o ad) (RepM Γ o ad) l RX2 "gives" cX2_gives 8 none [] 3 0 0 QP X0 0 0 u 35 [some (.ref o), some (IV b), some (IV (lk + s.2 18 p)), some (IV (p : Int)), some (IV (k : Int)), none, none, none] [] := by
          intro fu
          induction fu with
          | zero => intro k u hm; exact absurd hm (Nat.not_lt_zero _)
          | succ fu ih_35 =>
            intro k u hm hk hGu hBu g34 g35 gp
            have f19 : u.1 19 = σ.1 19 := hGu.1 19 (by decide) (by decide)
            have vr := sVoN_rng hB b p k
            refine j_iload (pc := 35) dX2_gives_35 rfl ?_
            refine j_aload_n (pc := 37) dX2_gives_37 rfl ?_
            refine m_getI (pc := 38) (v := u.1 19) fa_X2_178_X2 (by decide) rfl rfl dX2_gives_38 ?_
            have n_12 : 0 ≤ u.1 19 ∧ u.1 19 ≤ 5 := hBu.1 19
            refine j_icmp_ge (pc := 41) (tgt := 90) dX2_gives_41 (by decide) (by omega) (by omega) (fun c_41 => ?_) (fun c_41 => ?_)
            · refine j_iinc (pc := 90) dX2_gives_90 rfl (by decide) (lo' := [some (.ref o), some (IV b), some (IV (lk + s.2 18 p)), some (IV ((p : Int) + 1)), some (IV (k : Int)), none, none, none]) rfl ?_
              refine j_goto (pc := 93) (tgt := 4) dX2_gives_93 (by decide) ?_
              refine j_sub (lo' := [some (.ref o), some (IV b), some (IV (lk + s.2 18 p)), some (IV ((p : Int) + 1)), none, none, none, none]) ⟨Or.inr rfl, Or.inr rfl, Or.inr rfl, Or.inr rfl, Or.inl rfl, Or.inl rfl, Or.inl rfl, Or.inl rfl, trivial⟩ ?_
              exact ih_4 (p + 1) u (lk + s.2 18 p) (by omega) (by omega) hGu hBu (fun j hj => by rcases Nat.lt_or_ge j p with h | h; exact g34 j h; (rw [show j = p by omega, gp]; unfold sVo; congr 1; omega)) (fun j hj => g35 j (by omega)) (by show lk + s.2 18 p = sumN (σ.2 18) p + σ.2 18 p; rw [hl, hG.2 18 (by decide) (by decide) (by decide)])
            · refine j_aload_n (pc := 44) dX2_gives_44 rfl ?_
              refine m_getA (pc := 45) fa_X2_87_X2 (by decide) (by decide) dX2_gives_45 ?_
              refine j_iload_n (pc := 48) dX2_gives_48 rfl ?_
              refine j_dup2 (pc := 49) dX2_gives_49 rfl rfl ?_
              refine m_ld (pc := 50) (v := u.2 34 p) (by decide) (by decide) rfl (by show 0 ≤ (p : Int) ∧ (p : Int) < ((5 : Nat) : Int); omega) rfl dX2_gives_50 ?_
              have n_13 : 0 ≤ u.2 34 p ∧ u.2 34 p ≤ 100 := hBu.2 34 p
              refine j_iload_n (pc := 51) dX2_gives_51 rfl ?_
              refine j_if_eq (pc := 52) (tgt := 65) dX2_gives_52 (by decide) (by omega) (fun c_52 => ?_) (fun c_52 => ?_)
              · have hne : u.2 32 k ≠ -1 := by rw [hGu.2 32 (by decide) (by decide) (by decide)]; exact hs (by omega) k (by omega)
                have eX : u.2 29 (6 * u.2 32 k + p).toNat = σ.2 29 (6 * σ.2 32 k + p).toNat := by rw [hGu.2 29 (by decide) (by decide) (by decide), hGu.2 32 (by decide) (by decide) (by decide)]
                refine j_aload_n (pc := 65) dX2_gives_65 rfl ?_
                refine m_getA (pc := 66) fa_X2_72_X2 (by decide) (by decide) dX2_gives_66 ?_
                refine j_bipush (pc := 69) (a := 6) dX2_gives_69 (by decide) ?_
                refine j_aload_n (pc := 71) dX2_gives_71 rfl ?_
                refine m_getA (pc := 72) fa_X2_81_X2 (by decide) (by decide) dX2_gives_72 ?_
                refine j_iload (pc := 75) dX2_gives_75 rfl ?_
                refine m_ld (pc := 77) (v := u.2 32 k) (by decide) (by decide) rfl (by show 0 ≤ (k : Int) ∧ (k : Int) < ((5 : Nat) : Int); omega) rfl dX2_gives_77 ?_
                have n_14 : (-1) ≤ u.2 32 k ∧ u.2 32 k ≤ 39 := hBu.2 32 k
                refine j_imul (pc := 78) dX2_gives_78 ?_
                refine j_iload_n (pc := 79) dX2_gives_79 rfl ?_
                refine j_iadd (pc := 80) dX2_gives_80 ?_
                refine m_ld (pc := 81) (v := u.2 29 ((6 * (u.2 32 k)) + (p : Int)).toNat) (by decide) (by decide) rfl (by show 0 ≤ (6 * (u.2 32 k)) + (p : Int) ∧ (6 * (u.2 32 k)) + (p : Int) < ((240 : Nat) : Int); omega) rfl dX2_gives_81 ?_
                have n_15 : 0 ≤ u.2 29 ((6 * (u.2 32 k)) + (p : Int)).toNat ∧ u.2 29 ((6 * (u.2 32 k)) + (p : Int)).toNat ≤ 20 := hBu.2 29 (((6 * (u.2 32 k)) + (p : Int)).toNat)
                refine j_iadd (pc := 82) dX2_gives_82 ?_
                refine m_st (pc := 83) (by decide) (by decide) rfl (by show 0 ≤ (p : Int) ∧ (p : Int) < ((5 : Nat) : Int); omega) dX2_gives_83 ?_
                refine j_iinc (pc := 84) dX2_gives_84 rfl (by decide) (lo' := [some (.ref o), some (IV b), some (IV (lk + s.2 18 p)), some (IV (p : Int)), some (IV ((k : Int) + 1)), none, none, none]) rfl ?_
                refine j_goto (pc := 87) (tgt := 35) dX2_gives_87 (by decide) ?_
                exact ih_35 (k + 1) (setA u 34 p ((u.2 34 p) + (u.2 29 ((6 * (u.2 32 k)) + (p : Int)).toNat))) (by omega) (by omega) (hGu.a (Or.inl rfl)) (Bd.a hBu (by show (0 : Int) ≤ (u.2 34 p) + (u.2 29 ((6 * (u.2 32 k)) + (p : Int)).toNat) ∧ (u.2 34 p) + (u.2 29 ((6 * (u.2 32 k)) + (p : Int)).toNat) ≤ (100 : Int); omega)) (fun j hj => by show uA (u.2 34) p _ j = _; rw [uA_ne (by omega)]; exact g34 j hj) g35 (by show uA (u.2 34) p _ p = _; rw [uA_self]; show _ = sVoN σ b p k + _; rw [gp, eX]; split <;> omega)
              · have eX : sBoxed u k p = sBoxed σ k p := by unfold sBoxed; rw [hGu.2 28 (by decide) (by decide) (by decide), sInB_ext (hGu.2 27 (by decide) (by decide) (by decide))]
                refine j_aload_n (pc := 55) dX2_gives_55 rfl ?_
                refine j_iload (pc := 56) dX2_gives_56 rfl ?_
                refine j_iload_n (pc := 58) dX2_gives_58 rfl ?_
                refine j_callV (pc := 59) (m_inBox u (k : Int) (p : Int) (by omega) (by omega) hBu) (lw_V q1722 q1724 qs38 q48 q1725) rfl md_yX2_inBox (RC.ofM _ rfl) (by decide) (by decide) rfl (Nat.le_of_ble_eq_true rfl) dX2_gives_59 (qI.k (fun r_59 s_59 q_59 => ?_))
                obtain ⟨e1q_59, e2q_59⟩ := q_59
                subst r_59
                subst s_59
                have rs_59 := sBoxed_rng (σ := u) hBu (k : Int) (p : Int)
                refine j_goto (pc := 62) (tgt := 82) dX2_gives_62 (by decide) ?_
                refine j_iadd (pc := 82) dX2_gives_82 ?_
                refine m_st (pc := 83) (by decide) (by decide) rfl (by show 0 ≤ (p : Int) ∧ (p : Int) < ((5 : Nat) : Int); omega) dX2_gives_83 ?_
                refine j_iinc (pc := 84) dX2_gives_84 rfl (by decide) (lo' := [some (.ref o), some (IV b), some (IV (lk + s.2 18 p)), some (IV (p : Int)), some (IV ((k : Int) + 1)), none, none, none]) rfl ?_
                refine j_goto (pc := 87) (tgt := 35) dX2_gives_87 (by decide) ?_
                exact ih_35 (k + 1) (setA u 34 p ((u.2 34 p) + (sBoxed u (k : Int) (p : Int)))) (by omega) (by omega) (hGu.a (Or.inl rfl)) (Bd.a hBu (by show (0 : Int) ≤ (u.2 34 p) + (sBoxed u (k : Int) (p : Int)) ∧ (u.2 34 p) + (sBoxed u (k : Int) (p : Int)) ≤ (100 : Int); omega)) (fun j hj => by show uA (u.2 34) p _ j = _; rw [uA_ne (by omega)]; exact g34 j hj) g35 (by show uA (u.2 34) p _ p = _; rw [uA_self]; show _ = sVoN σ b p k + _; rw [gp, eX]; split <;> omega)
        exact hl_35 _ 0 (setA (setA s 34 p 0) 35 p 0) (Nat.lt_succ_self _) (by omega) ((hG.a (Or.inl rfl)).a (Or.inr (Or.inl rfl))) ((hS.a (by show (0 : Int) ≤ 0 ∧ (0 : Int) ≤ 100; decide)).a (by show (0 : Int) ≤ 0 ∧ (0 : Int) ≤ 30; decide)) (fun j hj => by show uA (s.2 34) p 0 j = _; rw [uA_ne (by omega)]; exact h34 j hj) (fun j hj => by show uA (s.2 35) p 0 j = 0; rw [uA_ap]; split; rfl; exact h35 j (by omega)) (by show uA (s.2 34) p 0 p = 0; exact uA_self _ _ _)
  exact hl_4 _ 0 σ 0 (Nat.lt_succ_self _) (by omega) (GS.refl σ) hB (fun j hj => absurd hj (Nat.not_lt_zero _)) (fun j hj => absurd hj (Nat.not_lt_zero _)) rfl

theorem md_yX2_gives : MD yX2_gives 1 := by decide +kernel
set_option maxHeartbeats 4000000 in
theorem m_done {Γ : GG} {l : Launch} {o : Nat} {ad : Nat → Nat} (σ : MM) (hB : Bd σ) (hs : σ.1 14 = 5 → ∀ k : Nat, (k : Int) < σ.1 19 → σ.2 32 k ≠ -1) : Ct Γ (AM o ad) (RepM Γ o ad) l yX2_done (ws_ yX2_done cX2_done 1 (some .boolean)) 4 0 0 [.ref o] σ (qI (fun (r : Int) (σ' : MM) => (σ.1 14 = 5 ∧ r = 1 ∧ GP σ 0 σ') ∨ (σ.1 14 ≠ 5 ∧ r = 0 ∧ σ' = σ))) X0 := by
  refine Ct.ofJ (own := RX2) (nm := "done") (lo := [some (.ref o)]) pn_X2 rfl rfl (List.forall_mem_cons.mpr ⟨rfl, (fun _ h => nomatch h)⟩) (Nat.le_of_ble_eq_true rfl) rfl ?_
  have hQ : ∀ (r : Int) (σ' : MM), ((σ.1 14 = 5 ∧ r = 1 ∧ GP σ 0 σ') ∨ (σ.1 14 ≠ 5 ∧ r = 0 ∧ σ' = σ)) → (qI (fun (r : Int) (σ' : MM) => (σ.1 14 = 5 ∧ r = 1 ∧ GP σ 0 σ') ∨ (σ.1 14 ≠ 5 ∧ r = 0 ∧ σ' = σ))) (some (IV r)) σ' := fun r σ' h => ⟨r, rfl, h⟩
  generalize (qI (fun (r : Int) (σ' : MM) => (σ.1 14 = 5 ∧ r = 1 ∧ GP σ 0 σ') ∨ (σ.1 14 ≠ 5 ∧ r = 0 ∧ σ' = σ))) = QP at hQ ⊢
  refine j_aload_n (pc := 0) dX2_done_0 rfl ?_
  refine m_getI (pc := 1) (v := σ.1 14) fa_X2_41_X2 (by decide) rfl rfl dX2_done_1 ?_
  have n_1 : 0 ≤ σ.1 14 ∧ σ.1 14 ≤ 5 := hB.1 14
  refine j_iconst (pc := 4) dX2_done_4 rfl ?_
  refine j_icmp_ne (pc := 5) (tgt := 13) dX2_done_5 (by decide) (by omega) (by decide) (fun c_5 => ?_) (fun c_5 => ?_)
  · refine j_aload_n (pc := 13) dX2_done_13 rfl ?_
    refine m_getI (pc := 14) (v := σ.1 14) fa_X2_41_X2 (by decide) rfl rfl dX2_done_14 ?_
    refine j_iconst (pc := 17) dX2_done_17 rfl ?_
    refine j_icmp_ne (pc := 18) (tgt := 25) dX2_done_18 (by decide) (by omega) (by decide) (fun c_18 => ?_) (fun c_18 => ?_)
    · refine j_iconst (pc := 25) dX2_done_25 rfl ?_
      refine j_zret (pc := 26) rfl (Or.inl rfl) (hQ _ _ ?_) dX2_done_26
      exact Or.inr ⟨by omega, by omega, rfl⟩
    · refine j_iconst (pc := 21) dX2_done_21 rfl ?_
      refine j_goto (pc := 22) (tgt := 26) dX2_done_22 (by decide) ?_
      refine j_zret (pc := 26) rfl (Or.inr rfl) (hQ _ _ ?_) dX2_done_26
      exact Or.inr ⟨by omega, by omega, rfl⟩
  · refine j_aload_n (pc := 8) dX2_done_8 rfl ?_
    refine j_iconst (pc := 9) dX2_done_9 rfl ?_
    refine j_callV (pc := 10) (m_gives σ 0 (by decide) hB (fun _ => hs (by omega))) (lw_V q1737 q1739 qs40 q48 q1740) rfl md_yX2_gives (RC.ofM _ rfl) (by decide) (by decide) rfl (Nat.le_of_ble_eq_true rfl) dX2_done_10 (qV.k (fun s_10 q_10 => ?_))
    have g_10 := q_10.s
    have gs_10 : s_10.1 14 = σ.1 14 := g_10.1.1 14 (by decide) (by decide)
    refine j_aload_n (pc := 13) dX2_done_13 rfl ?_
    refine m_getI (pc := 14) (v := s_10.1 14) fa_X2_41_X2 (by decide) rfl rfl dX2_done_14 ?_
    have n_2 : 0 ≤ s_10.1 14 ∧ s_10.1 14 ≤ 5 := q_10.s.2.1 14
    refine j_iconst (pc := 17) dX2_done_17 rfl ?_
    refine j_icmp_ne (pc := 18) (tgt := 25) dX2_done_18 (by decide) (by omega) (by decide) (fun c_18_1 => ?_) (fun c_18_1 => ?_)
    · refine j_iconst (pc := 25) dX2_done_25 rfl ?_
      refine j_zret (pc := 26) rfl (Or.inl rfl) (hQ _ _ ?_) dX2_done_26
      exact Or.inl ⟨by omega, by omega, q_10⟩
    · refine j_iconst (pc := 21) dX2_done_21 rfl ?_
      refine j_goto (pc := 22) (tgt := 26) dX2_done_22 (by decide) ?_
      refine j_zret (pc := 26) rfl (Or.inr rfl) (hQ _ _ ?_) dX2_done_26
      exact Or.inl ⟨by omega, by omega, q_10⟩

set_option maxHeartbeats 4000000 in
theorem m_isParty {S : Type} {Γ : GG} {A : Nat → Prop} {Rep : S → Heap → Prop} {l : Launch} (x : S) (v : Int) (hv : RR v) : Ct Γ A Rep l yX2_isParty (ws_ yX2_isParty cX2_isParty 1 (some .boolean)) 2 0 0 [IV v] x (qI (fun (r : Int) (x' : S) => r = bI (0 ≤ v ∧ v ≤ 4) ∧ x' = x)) X0 := by
  refine Ct.ofJ (own := RX2) (nm := "isParty") (lo := [some (IV v)]) pn_X2 rfl rfl (List.forall_mem_cons.mpr ⟨rfl, (fun _ h => nomatch h)⟩) (Nat.le_of_ble_eq_true rfl) rfl ?_
  have hQ : ∀ (r : Int) (x' : S), (r = bI (0 ≤ v ∧ v ≤ 4) ∧ x' = x) → (qI (fun (r : Int) (x' : S) => r = bI (0 ≤ v ∧ v ≤ 4) ∧ x' = x)) (some (IV r)) x' := fun r x' h => ⟨r, rfl, h⟩
  generalize (qI (fun (r : Int) (x' : S) => r = bI (0 ≤ v ∧ v ≤ 4) ∧ x' = x)) = QP at hQ ⊢
  refine j_iload_n (pc := 0) dX2_isParty_0 rfl ?_
  refine j_iconst (pc := 1) dX2_isParty_1 rfl ?_
  refine j_iconst (pc := 2) dX2_isParty_2 rfl ?_
  refine j_callS (pc := 3) (m_in x v 0 4 (by omega) (by decide) (by decide)) (lw_S q1532 q1533 q48 q1534) md_yX2_in (by decide) (by decide) rfl (Nat.le_of_ble_eq_true rfl) dX2_isParty_3 (qI.k (fun r_3 s_3 q_3 => ?_))
  obtain ⟨e1q_3, e2q_3⟩ := q_3
  subst r_3
  subst s_3
  refine j_zret (pc := 6) rfl (bI_01 _) (hQ _ _ ?_) dX2_isParty_6
  exact ⟨rfl, rfl⟩

theorem In.s4 {σ : MM} (h : In σ) (h5 : σ.1 14 = 5) (k : Nat) (hk : (k : Int) < σ.1 19) : σ.2 32 k ≠ -1 := h.2.2.2.2.2.2.2.2.2.2.2.2.2 h5 k hk
theorem md_yX2_isParty : MD yX2_isParty 1 := by decide +kernel
theorem md_yX2_done : MD yX2_done 0 := by decide +kernel
set_option maxHeartbeats 4000000 in
theorem m_votes {Γ : GG} {l : Launch} {o : Nat} {ad : Nat → Nat} (σ : MM) (p : Int) (hp : RR p) (hB : Bd σ) (hI : In σ) : Ct Γ (AM o ad) (RepM Γ o ad) l yX2_votes (ws_ yX2_votes cX2_votes 2 (some .int)) 5 0 0 [.ref o, IV p] σ (qI (fun (r : Int) (σ' : MM) => oEndG σ (t1 (0 ≤ p ∧ p ≤ 4)) (if σ.1 14 = 5 then sVo (σ0 σ) 0 p.toNat else -1) r σ')) X0 := by
  refine Ct.ofJ (own := RX2) (nm := "votes") (lo := [some (.ref o), some (IV p)]) pn_X2 rfl rfl (List.forall_mem_cons.mpr ⟨rfl, (List.forall_mem_cons.mpr ⟨rfl, (fun _ h => nomatch h)⟩)⟩) (Nat.le_of_ble_eq_true rfl) rfl ?_
  have hQ : ∀ (r : Int) (σ' : MM), (oEndG σ (t1 (0 ≤ p ∧ p ≤ 4)) (if σ.1 14 = 5 then sVo (σ0 σ) 0 p.toNat else -1) r σ') → (qI (fun (r : Int) (σ' : MM) => oEndG σ (t1 (0 ≤ p ∧ p ≤ 4)) (if σ.1 14 = 5 then sVo (σ0 σ) 0 p.toNat else -1) r σ')) (some (IV r)) σ' := fun r σ' h => ⟨r, rfl, h⟩
  generalize (qI (fun (r : Int) (σ' : MM) => oEndG σ (t1 (0 ≤ p ∧ p ≤ 4)) (if σ.1 14 = 5 then sVo (σ0 σ) 0 p.toNat else -1) r σ')) = QP at hQ ⊢
  have n6 : 0 ≤ σ.1 6 ∧ σ.1 6 ≤ 5 := hB.1 6
  have n9 : 0 ≤ σ.1 9 ∧ σ.1 9 ≤ 20 := hB.1 9
  have n0 : 0 ≤ σ.1 0 ∧ σ.1 0 ≤ 2100 := hB.1 0
  have n14 : 0 ≤ σ.1 14 ∧ σ.1 14 ≤ 5 := hB.1 14
  have n26 : 0 ≤ σ.1 26 ∧ σ.1 26 ≤ 60 := hB.1 26
  refine j_aload_n (pc := 0) dX2_votes_0 rfl ?_
  refine j_iload_n (pc := 1) dX2_votes_1 rfl ?_
  refine j_callS (pc := 2) (m_isParty σ p (by omega)) (lw_S q1730 q1731 q48 q1732) md_yX2_isParty (by decide) (by decide) rfl (Nat.le_of_ble_eq_true rfl) dX2_votes_2 (qI.k (fun r_2 s_2 q_2 => ?_))
  obtain ⟨e1q_2, e2q_2⟩ := q_2
  subst r_2
  subst s_2
  refine j_callV (pc := 5) (m_asked1 σ (bI (0 ≤ p ∧ p ≤ 4)) (bI_01 _)) (lw_V q1546 q1548 qs21 q48 q1549) rfl md_yX2_asked_2 (RC.ofM _ rfl) (by decide) (by decide) rfl (Nat.le_of_ble_eq_true rfl) dX2_votes_5 (qI.k (fun r_5 s_5 q_5 => ?_))
  rcases q_5 with ⟨q_5a, rfl, rfl⟩ | ⟨q_5a, rfl, rfl⟩
  · have q_5_0 := bI_or ((0 ≤ p ∧ p ≤ 4))
    refine j_if_ne (pc := 8) (tgt := 13) dX2_votes_8 (by decide) (by decide) (fun c_8 => ?_) (fun c_8 => ?_)
    · refine j_aload_n (pc := 13) dX2_votes_13 rfl ?_
      refine j_callV (pc := 14) (m_done (setI σ 43 0) (Bd.i hB (by show 0 ≤ 0 ∧ 0 ≤ (3 : Int); omega)) (by intro h5 k hk; exact hI.s4 h5 k hk)) (lw_V q1733 q1735 qs39 q48 q1736) rfl md_yX2_done (RC.ofM _ rfl) (by decide) (by decide) rfl (Nat.le_of_ble_eq_true rfl) dX2_votes_14 (qI.k (fun r_14 s_14 q_14 => ?_))
      rcases q_14 with ⟨q_14a, rfl, q_14g⟩ | ⟨q_14a, rfl, q_14e⟩
      · have q_14s := q_14g.s
        have q_14a : σ.1 14 = 5 := q_14a
        refine j_if_eq (pc := 17) (tgt := 29) dX2_votes_17 (by decide) (by decide) (fun c_17 => ?_) (fun c_17 => ?_)
        · exact absurd c_17 (by decide)
        · refine j_aload_n (pc := 20) dX2_votes_20 rfl ?_
          refine m_getA (pc := 21) fa_X2_87_X2 (by decide) (by decide) dX2_votes_21 ?_
          refine j_iload_n (pc := 24) dX2_votes_24 rfl ?_
          refine m_ld (pc := 25) (v := s_14.2 34 (p).toNat) (by decide) (by decide) rfl (by show 0 ≤ p ∧ p < ((5 : Nat) : Int); omega) rfl dX2_votes_25 ?_
          have n_1 : 0 ≤ s_14.2 34 (p).toNat ∧ s_14.2 34 (p).toNat ≤ 100 := q_14g.s.2.2 34 ((p).toNat)
          refine j_goto (pc := 26) (tgt := 30) dX2_votes_26 (by decide) ?_
          refine j_iret (pc := 30) rfl (hQ _ _ ?_) dX2_votes_30
          exact Or.inl ⟨by unfold t1; (repeat' split) <;> omega, by rw [if_pos q_14a]; exact q_14g.v (by omega), q_14g.s.1, q_14g.s.2⟩
      · subst s_14
        have q_14a : σ.1 14 ≠ 5 := q_14a
        refine j_if_eq (pc := 17) (tgt := 29) dX2_votes_17 (by decide) (by decide) (fun c_17_1 => ?_) (fun c_17_1 => ?_)
        · refine j_iconst (pc := 29) dX2_votes_29 rfl ?_
          refine j_iret (pc := 30) rfl (hQ _ _ ?_) dX2_votes_30
          exact Or.inl ⟨by unfold t1; (repeat' split) <;> omega, by (repeat' split) <;> first | rfl | omega, GS.refl _, (Bd.i hB (by show 0 ≤ 0 ∧ 0 ≤ (3 : Int); omega))⟩
        · exact absurd c_17_1 (by decide)
    · exact absurd c_8 (by decide)
  · have q_5_0 := bI_or ((0 ≤ p ∧ p ≤ 4))
    refine j_if_ne (pc := 8) (tgt := 13) dX2_votes_8 (by decide) (by decide) (fun c_8_1 => ?_) (fun c_8_1 => ?_)
    · exact absurd c_8_1 (by decide)
    · refine j_iconst (pc := 11) dX2_votes_11 rfl ?_
      refine j_iret (pc := 12) rfl (hQ _ _ ?_) dX2_votes_12
      exact Or.inr ⟨by unfold t1; (repeat' split) <;> omega, rfl, by congr 1; unfold t1; (repeat' split) <;> omega⟩

set_option maxHeartbeats 4000000 in
theorem m_seats {Γ : GG} {l : Launch} {o : Nat} {ad : Nat → Nat} (σ : MM) (p : Int) (hp : RR p) (hB : Bd σ) (hI : In σ) : Ct Γ (AM o ad) (RepM Γ o ad) l yX2_seats (ws_ yX2_seats cX2_seats 2 (some .int)) 5 0 0 [.ref o, IV p] σ (qI (fun (r : Int) (σ' : MM) => oEndG σ (t1 (0 ≤ p ∧ p ≤ 4)) (if σ.1 14 = 5 then (sHo (σ0 σ) 0).1 p.toNat else -1) r σ')) X0 := by
  refine Ct.ofJ (own := RX2) (nm := "seats") (lo := [some (.ref o), some (IV p)]) pn_X2 rfl rfl (List.forall_mem_cons.mpr ⟨rfl, (List.forall_mem_cons.mpr ⟨rfl, (fun _ h => nomatch h)⟩)⟩) (Nat.le_of_ble_eq_true rfl) rfl ?_
  have hQ : ∀ (r : Int) (σ' : MM), (oEndG σ (t1 (0 ≤ p ∧ p ≤ 4)) (if σ.1 14 = 5 then (sHo (σ0 σ) 0).1 p.toNat else -1) r σ') → (qI (fun (r : Int) (σ' : MM) => oEndG σ (t1 (0 ≤ p ∧ p ≤ 4)) (if σ.1 14 = 5 then (sHo (σ0 σ) 0).1 p.toNat else -1) r σ')) (some (IV r)) σ' := fun r σ' h => ⟨r, rfl, h⟩
  generalize (qI (fun (r : Int) (σ' : MM) => oEndG σ (t1 (0 ≤ p ∧ p ≤ 4)) (if σ.1 14 = 5 then (sHo (σ0 σ) 0).1 p.toNat else -1) r σ')) = QP at hQ ⊢
  have n6 : 0 ≤ σ.1 6 ∧ σ.1 6 ≤ 5 := hB.1 6
  have n9 : 0 ≤ σ.1 9 ∧ σ.1 9 ≤ 20 := hB.1 9
  have n0 : 0 ≤ σ.1 0 ∧ σ.1 0 ≤ 2100 := hB.1 0
  have n14 : 0 ≤ σ.1 14 ∧ σ.1 14 ≤ 5 := hB.1 14
  have n26 : 0 ≤ σ.1 26 ∧ σ.1 26 ≤ 60 := hB.1 26
  refine j_aload_n (pc := 0) dX2_seats_0 rfl ?_
  refine j_iload_n (pc := 1) dX2_seats_1 rfl ?_
  refine j_callS (pc := 2) (m_isParty σ p (by omega)) (lw_S q1730 q1731 q48 q1732) md_yX2_isParty (by decide) (by decide) rfl (Nat.le_of_ble_eq_true rfl) dX2_seats_2 (qI.k (fun r_2 s_2 q_2 => ?_))
  obtain ⟨e1q_2, e2q_2⟩ := q_2
  subst r_2
  subst s_2
  refine j_callV (pc := 5) (m_asked1 σ (bI (0 ≤ p ∧ p ≤ 4)) (bI_01 _)) (lw_V q1546 q1548 qs21 q48 q1549) rfl md_yX2_asked_2 (RC.ofM _ rfl) (by decide) (by decide) rfl (Nat.le_of_ble_eq_true rfl) dX2_seats_5 (qI.k (fun r_5 s_5 q_5 => ?_))
  rcases q_5 with ⟨q_5a, rfl, rfl⟩ | ⟨q_5a, rfl, rfl⟩
  · have q_5_0 := bI_or ((0 ≤ p ∧ p ≤ 4))
    refine j_if_ne (pc := 8) (tgt := 13) dX2_seats_8 (by decide) (by decide) (fun c_8 => ?_) (fun c_8 => ?_)
    · refine j_aload_n (pc := 13) dX2_seats_13 rfl ?_
      refine j_callV (pc := 14) (m_done (setI σ 43 0) (Bd.i hB (by show 0 ≤ 0 ∧ 0 ≤ (3 : Int); omega)) (by intro h5 k hk; exact hI.s4 h5 k hk)) (lw_V q1733 q1735 qs39 q48 q1736) rfl md_yX2_done (RC.ofM _ rfl) (by decide) (by decide) rfl (Nat.le_of_ble_eq_true rfl) dX2_seats_14 (qI.k (fun r_14 s_14 q_14 => ?_))
      rcases q_14 with ⟨q_14a, rfl, q_14g⟩ | ⟨q_14a, rfl, q_14e⟩
      · have q_14s := q_14g.s
        have q_14a : σ.1 14 = 5 := q_14a
        refine j_if_eq (pc := 17) (tgt := 29) dX2_seats_17 (by decide) (by decide) (fun c_17 => ?_) (fun c_17 => ?_)
        · exact absurd c_17 (by decide)
        · refine j_aload_n (pc := 20) dX2_seats_20 rfl ?_
          refine m_getA (pc := 21) fa_X2_90_X2 (by decide) (by decide) dX2_seats_21 ?_
          refine j_iload_n (pc := 24) dX2_seats_24 rfl ?_
          refine m_ld (pc := 25) (v := s_14.2 35 (p).toNat) (by decide) (by decide) rfl (by show 0 ≤ p ∧ p < ((5 : Nat) : Int); omega) rfl dX2_seats_25 ?_
          have n_1 : 0 ≤ s_14.2 35 (p).toNat ∧ s_14.2 35 (p).toNat ≤ 30 := q_14g.s.2.2 35 ((p).toNat)
          refine j_goto (pc := 26) (tgt := 30) dX2_seats_26 (by decide) ?_
          refine j_iret (pc := 30) rfl (hQ _ _ ?_) dX2_seats_30
          exact Or.inl ⟨by unfold t1; (repeat' split) <;> omega, by rw [if_pos q_14a]; exact q_14g.g (by omega), q_14g.s.1, q_14g.s.2⟩
      · subst s_14
        have q_14a : σ.1 14 ≠ 5 := q_14a
        refine j_if_eq (pc := 17) (tgt := 29) dX2_seats_17 (by decide) (by decide) (fun c_17_1 => ?_) (fun c_17_1 => ?_)
        · refine j_iconst (pc := 29) dX2_seats_29 rfl ?_
          refine j_iret (pc := 30) rfl (hQ _ _ ?_) dX2_seats_30
          exact Or.inl ⟨by unfold t1; (repeat' split) <;> omega, by (repeat' split) <;> first | rfl | omega, GS.refl _, (Bd.i hB (by show 0 ≤ 0 ∧ 0 ≤ (3 : Int); omega))⟩
        · exact absurd c_17_1 (by decide)
    · exact absurd c_8 (by decide)
  · have q_5_0 := bI_or ((0 ≤ p ∧ p ≤ 4))
    refine j_if_ne (pc := 8) (tgt := 13) dX2_seats_8 (by decide) (by decide) (fun c_8_1 => ?_) (fun c_8_1 => ?_)
    · exact absurd c_8_1 (by decide)
    · refine j_iconst (pc := 11) dX2_seats_11 rfl ?_
      refine j_iret (pc := 12) rfl (hQ _ _ ?_) dX2_seats_12
      exact Or.inr ⟨by unfold t1; (repeat' split) <;> omega, rfl, by congr 1; unfold t1; (repeat' split) <;> omega⟩

set_option maxHeartbeats 4000000 in
theorem m_seatAt {Γ : GG} {l : Launch} {o : Nat} {ad : Nat → Nat} (σ : MM) (p : Int) (hp : RR p) (hB : Bd σ) (hI : In σ) : Ct Γ (AM o ad) (RepM Γ o ad) l yX2_seatAt (ws_ yX2_seatAt cX2_seatAt 2 (some .int)) 5 0 0 [.ref o, IV p] σ (qI (fun (r : Int) (σ' : MM) => oEndG σ (t1 (0 ≤ p)) (if σ.1 14 = 5 ∧ p < sHn (σ0 σ) 0 then (sHo (σ0 σ) 0).2.1 p.toNat else -1) r σ')) X0 := by
  refine Ct.ofJ (own := RX2) (nm := "seatAt") (lo := [some (.ref o), some (IV p)]) pn_X2 rfl rfl (List.forall_mem_cons.mpr ⟨rfl, (List.forall_mem_cons.mpr ⟨rfl, (fun _ h => nomatch h)⟩)⟩) (Nat.le_of_ble_eq_true rfl) rfl ?_
  have hQ : ∀ (r : Int) (σ' : MM), (oEndG σ (t1 (0 ≤ p)) (if σ.1 14 = 5 ∧ p < sHn (σ0 σ) 0 then (sHo (σ0 σ) 0).2.1 p.toNat else -1) r σ') → (qI (fun (r : Int) (σ' : MM) => oEndG σ (t1 (0 ≤ p)) (if σ.1 14 = 5 ∧ p < sHn (σ0 σ) 0 then (sHo (σ0 σ) 0).2.1 p.toNat else -1) r σ')) (some (IV r)) σ' := fun r σ' h => ⟨r, rfl, h⟩
  generalize (qI (fun (r : Int) (σ' : MM) => oEndG σ (t1 (0 ≤ p)) (if σ.1 14 = 5 ∧ p < sHn (σ0 σ) 0 then (sHo (σ0 σ) 0).2.1 p.toNat else -1) r σ')) = QP at hQ ⊢
  have n6 : 0 ≤ σ.1 6 ∧ σ.1 6 ≤ 5 := hB.1 6
  have n9 : 0 ≤ σ.1 9 ∧ σ.1 9 ≤ 20 := hB.1 9
  have n0 : 0 ≤ σ.1 0 ∧ σ.1 0 ≤ 2100 := hB.1 0
  have n14 : 0 ≤ σ.1 14 ∧ σ.1 14 ≤ 5 := hB.1 14
  have n26 : 0 ≤ σ.1 26 ∧ σ.1 26 ≤ 60 := hB.1 26
  refine j_aload_n (pc := 0) dX2_seatAt_0 rfl ?_
  refine j_iload_n (pc := 1) dX2_seatAt_1 rfl ?_
  refine j_if_lt (pc := 2) (tgt := 9) dX2_seatAt_2 (by decide) (by omega) (fun c_2 => ?_) (fun c_2 => ?_)
  · refine j_iconst (pc := 9) dX2_seatAt_9 rfl ?_
    refine j_callV (pc := 10) (m_asked1 σ 0 (Or.inl rfl)) (lw_V q1546 q1548 qs21 q48 q1549) rfl md_yX2_asked_2 (RC.ofM _ rfl) (by decide) (by decide) rfl (Nat.le_of_ble_eq_true rfl) dX2_seatAt_10 (qI.k (fun r_10 s_10 q_10 => ?_))
    rcases q_10 with ⟨q_10a, rfl, rfl⟩ | ⟨q_10a, rfl, rfl⟩
    · exact absurd q_10a (by decide)
    · have q_10b := q_10a
      refine j_if_ne (pc := 13) (tgt := 18) dX2_seatAt_13 (by decide) (by decide) (fun c_13 => ?_) (fun c_13 => ?_)
      · exact absurd c_13 (by decide)
      · refine j_iconst (pc := 16) dX2_seatAt_16 rfl ?_
        refine j_iret (pc := 17) rfl (hQ _ _ ?_) dX2_seatAt_17
        exact Or.inr ⟨by unfold t1; (repeat' split) <;> omega, rfl, by congr 1; unfold t1; (repeat' split) <;> omega⟩
  · refine j_iconst (pc := 5) dX2_seatAt_5 rfl ?_
    refine j_goto (pc := 6) (tgt := 10) dX2_seatAt_6 (by decide) ?_
    refine j_callV (pc := 10) (m_asked1 σ 1 (Or.inr rfl)) (lw_V q1546 q1548 qs21 q48 q1549) rfl md_yX2_asked_2 (RC.ofM _ rfl) (by decide) (by decide) rfl (Nat.le_of_ble_eq_true rfl) dX2_seatAt_10 (qI.k (fun r_10_1 s_10_1 q_10_1 => ?_))
    rcases q_10_1 with ⟨q_10_1a, rfl, rfl⟩ | ⟨q_10_1a, rfl, rfl⟩
    · have q_10_1b := q_10_1a
      refine j_if_ne (pc := 13) (tgt := 18) dX2_seatAt_13 (by decide) (by decide) (fun c_13_1 => ?_) (fun c_13_1 => ?_)
      · refine j_aload_n (pc := 18) dX2_seatAt_18 rfl ?_
        refine j_callV (pc := 19) (m_done (setI σ 43 0) (Bd.i hB (by show 0 ≤ 0 ∧ 0 ≤ (3 : Int); omega)) (by intro h5 k hk; exact hI.s4 h5 k hk)) (lw_V q1733 q1735 qs39 q48 q1736) rfl md_yX2_done (RC.ofM _ rfl) (by decide) (by decide) rfl (Nat.le_of_ble_eq_true rfl) dX2_seatAt_19 (qI.k (fun r_19 s_19 q_19 => ?_))
        rcases q_19 with ⟨q_19a, rfl, q_19g⟩ | ⟨q_19a, rfl, q_19e⟩
        · have q_19s := q_19g.s
          have q_19a : σ.1 14 = 5 := q_19a
          refine j_if_eq (pc := 22) (tgt := 42) dX2_seatAt_22 (by decide) (by decide) (fun c_22 => ?_) (fun c_22 => ?_)
          · exact absurd c_22 (by decide)
          · refine j_iload_n (pc := 25) dX2_seatAt_25 rfl ?_
            refine j_aload_n (pc := 26) dX2_seatAt_26 rfl ?_
            refine m_getI (pc := 27) (v := s_19.1 37) fa_X2_220_X2 (by decide) rfl rfl dX2_seatAt_27 ?_
            have n_1 : 0 ≤ s_19.1 37 ∧ s_19.1 37 ≤ 30 := q_19g.s.2.1 37
            refine j_icmp_ge (pc := 30) (tgt := 42) dX2_seatAt_30 (by decide) (by omega) (by omega) (fun c_30 => ?_) (fun c_30 => ?_)
            · refine j_iconst (pc := 42) dX2_seatAt_42 rfl ?_
              refine j_iret (pc := 43) rfl (hQ _ _ ?_) dX2_seatAt_43
              exact Or.inl ⟨by unfold t1; (repeat' split) <;> omega, by have h8 : s_19.1 37 = sHn (σ0 σ) 0 := q_19g.n; rw [if_neg (fun z => by have := z.2; omega)], q_19g.s.1, q_19g.s.2⟩
            · refine j_aload_n (pc := 33) dX2_seatAt_33 rfl ?_
              refine m_getA (pc := 34) fa_X2_93_X2 (by decide) (by decide) dX2_seatAt_34 ?_
              refine j_iload_n (pc := 37) dX2_seatAt_37 rfl ?_
              refine m_ld (pc := 38) (v := s_19.2 36 (p).toNat) (by decide) (by decide) rfl (by show 0 ≤ p ∧ p < ((30 : Nat) : Int); omega) rfl dX2_seatAt_38 ?_
              have n_2 : 0 ≤ s_19.2 36 (p).toNat ∧ s_19.2 36 (p).toNat ≤ 4 := q_19g.s.2.2 36 ((p).toNat)
              refine j_goto (pc := 39) (tgt := 43) dX2_seatAt_39 (by decide) ?_
              refine j_iret (pc := 43) rfl (hQ _ _ ?_) dX2_seatAt_43
              exact Or.inl ⟨by unfold t1; (repeat' split) <;> omega, by have h8 : s_19.1 37 = sHn (σ0 σ) 0 := q_19g.n; rw [if_pos ⟨q_19a, by omega⟩]; exact q_19g.o ⟨by omega, by show p < sHn (σ0 σ) 0; omega⟩, q_19g.s.1, q_19g.s.2⟩
        · subst s_19
          have q_19a : σ.1 14 ≠ 5 := q_19a
          refine j_if_eq (pc := 22) (tgt := 42) dX2_seatAt_22 (by decide) (by decide) (fun c_22_1 => ?_) (fun c_22_1 => ?_)
          · refine j_iconst (pc := 42) dX2_seatAt_42 rfl ?_
            refine j_iret (pc := 43) rfl (hQ _ _ ?_) dX2_seatAt_43
            exact Or.inl ⟨by unfold t1; (repeat' split) <;> omega, by (repeat' split) <;> first | rfl | omega, GS.refl _, (Bd.i hB (by show 0 ≤ 0 ∧ 0 ≤ (3 : Int); omega))⟩
          · exact absurd c_22_1 (by decide)
      · exact absurd c_13_1 (by decide)
    · exact absurd q_10_1a (by decide)

set_option maxHeartbeats 4000000 in
theorem m_lots {Γ : GG} {l : Launch} {o : Nat} {ad : Nat → Nat} (σ : MM)   (hB : Bd σ) (hI : In σ) : Ct Γ (AM o ad) (RepM Γ o ad) l yX2_lots (ws_ yX2_lots cX2_lots 1 (some .int)) 5 0 0 [.ref o] σ (qI (fun (r : Int) (σ' : MM) => oEndG σ (0) (if σ.1 14 = 5 then (sHo (σ0 σ) 0).2.2.1 else -1) r σ')) X0 := by
  refine Ct.ofJ (own := RX2) (nm := "lots") (lo := [some (.ref o)]) pn_X2 rfl rfl (List.forall_mem_cons.mpr ⟨rfl, (fun _ h => nomatch h)⟩) (Nat.le_of_ble_eq_true rfl) rfl ?_
  have hQ : ∀ (r : Int) (σ' : MM), (oEndG σ (0) (if σ.1 14 = 5 then (sHo (σ0 σ) 0).2.2.1 else -1) r σ') → (qI (fun (r : Int) (σ' : MM) => oEndG σ (0) (if σ.1 14 = 5 then (sHo (σ0 σ) 0).2.2.1 else -1) r σ')) (some (IV r)) σ' := fun r σ' h => ⟨r, rfl, h⟩
  generalize (qI (fun (r : Int) (σ' : MM) => oEndG σ (0) (if σ.1 14 = 5 then (sHo (σ0 σ) 0).2.2.1 else -1) r σ')) = QP at hQ ⊢
  have n6 : 0 ≤ σ.1 6 ∧ σ.1 6 ≤ 5 := hB.1 6
  have n9 : 0 ≤ σ.1 9 ∧ σ.1 9 ≤ 20 := hB.1 9
  have n0 : 0 ≤ σ.1 0 ∧ σ.1 0 ≤ 2100 := hB.1 0
  have n14 : 0 ≤ σ.1 14 ∧ σ.1 14 ≤ 5 := hB.1 14
  have n26 : 0 ≤ σ.1 26 ∧ σ.1 26 ≤ 60 := hB.1 26
  refine j_aload_n (pc := 0) dX2_lots_0 rfl ?_
  refine j_iconst (pc := 1) dX2_lots_1 rfl ?_
  refine m_putI (pc := 2) fp_X2_108_X2 (by decide) rfl dX2_lots_2 ?_
  refine j_aload_n (pc := 5) dX2_lots_5 rfl ?_
  refine j_callV (pc := 6) (m_done (setI σ 43 0) (Bd.i hB (by show 0 ≤ 0 ∧ 0 ≤ (3 : Int); omega)) (by intro h5 k hk; exact hI.s4 h5 k hk)) (lw_V q1733 q1735 qs39 q48 q1736) rfl md_yX2_done (RC.ofM _ rfl) (by decide) (by decide) rfl (Nat.le_of_ble_eq_true rfl) dX2_lots_6 (qI.k (fun r_6 s_6 q_6 => ?_))
  rcases q_6 with ⟨q_6a, rfl, q_6g⟩ | ⟨q_6a, rfl, q_6e⟩
  · have q_6s := q_6g.s
    have q_6a : σ.1 14 = 5 := q_6a
    refine j_if_eq (pc := 9) (tgt := 19) dX2_lots_9 (by decide) (by decide) (fun c_9 => ?_) (fun c_9 => ?_)
    · exact absurd c_9 (by decide)
    · refine j_aload_n (pc := 12) dX2_lots_12 rfl ?_
      refine m_getI (pc := 13) (v := s_6.1 38) fa_X2_223_X2 (by decide) rfl rfl dX2_lots_13 ?_
      have n_1 : 0 ≤ s_6.1 38 ∧ s_6.1 38 ≤ 30 := q_6g.s.2.1 38
      refine j_goto (pc := 16) (tgt := 20) dX2_lots_16 (by decide) ?_
      refine j_iret (pc := 20) rfl (hQ _ _ ?_) dX2_lots_20
      exact Or.inl ⟨by rfl, by rw [if_pos q_6a]; exact q_6g.l, q_6g.s.1, q_6g.s.2⟩
  · subst s_6
    have q_6a : σ.1 14 ≠ 5 := q_6a
    refine j_if_eq (pc := 9) (tgt := 19) dX2_lots_9 (by decide) (by decide) (fun c_9_1 => ?_) (fun c_9_1 => ?_)
    · refine j_iconst (pc := 19) dX2_lots_19 rfl ?_
      refine j_iret (pc := 20) rfl (hQ _ _ ?_) dX2_lots_20
      exact Or.inl ⟨by rfl, by (repeat' split) <;> first | rfl | omega, GS.refl _, (Bd.i hB (by show 0 ≤ 0 ∧ 0 ≤ (3 : Int); omega))⟩
    · exact absurd c_9_1 (by decide)

set_option maxHeartbeats 4000000 in
theorem m_seatsBy {Γ : GG} {l : Launch} {o : Nat} {ad : Nat → Nat} (σ : MM) (p : Int) (hp : RR p) (hB : Bd σ) (hI : In σ) : Ct Γ (AM o ad) (RepM Γ o ad) l yX2_seatsByBallots (ws_ yX2_seatsByBallots cX2_seatsByBallots 2 (some .int)) 5 0 0 [.ref o, IV p] σ (qI (fun (r : Int) (σ' : MM) => oEndG σ (t1 (0 ≤ p ∧ p ≤ 4)) (if σ.1 14 < 4 then -1 else (sHo (σ0 σ) 1).1 p.toNat) r σ')) X0 := by
  refine Ct.ofJ (own := RX2) (nm := "seatsByBallots") (lo := [some (.ref o), some (IV p)]) pn_X2 rfl rfl (List.forall_mem_cons.mpr ⟨rfl, (List.forall_mem_cons.mpr ⟨rfl, (fun _ h => nomatch h)⟩)⟩) (Nat.le_of_ble_eq_true rfl) rfl ?_
  have hQ : ∀ (r : Int) (σ' : MM), (oEndG σ (t1 (0 ≤ p ∧ p ≤ 4)) (if σ.1 14 < 4 then -1 else (sHo (σ0 σ) 1).1 p.toNat) r σ') → (qI (fun (r : Int) (σ' : MM) => oEndG σ (t1 (0 ≤ p ∧ p ≤ 4)) (if σ.1 14 < 4 then -1 else (sHo (σ0 σ) 1).1 p.toNat) r σ')) (some (IV r)) σ' := fun r σ' h => ⟨r, rfl, h⟩
  generalize (qI (fun (r : Int) (σ' : MM) => oEndG σ (t1 (0 ≤ p ∧ p ≤ 4)) (if σ.1 14 < 4 then -1 else (sHo (σ0 σ) 1).1 p.toNat) r σ')) = QP at hQ ⊢
  have n6 : 0 ≤ σ.1 6 ∧ σ.1 6 ≤ 5 := hB.1 6
  have n9 : 0 ≤ σ.1 9 ∧ σ.1 9 ≤ 20 := hB.1 9
  have n0 : 0 ≤ σ.1 0 ∧ σ.1 0 ≤ 2100 := hB.1 0
  have n14 : 0 ≤ σ.1 14 ∧ σ.1 14 ≤ 5 := hB.1 14
  have n26 : 0 ≤ σ.1 26 ∧ σ.1 26 ≤ 60 := hB.1 26
  refine j_aload_n (pc := 0) dX2_seatsByBallots_0 rfl ?_
  refine j_iload_n (pc := 1) dX2_seatsByBallots_1 rfl ?_
  refine j_callS (pc := 2) (m_isParty σ p (by omega)) (lw_S q1730 q1731 q48 q1732) md_yX2_isParty (by decide) (by decide) rfl (Nat.le_of_ble_eq_true rfl) dX2_seatsByBallots_2 (qI.k (fun r_2 s_2 q_2 => ?_))
  obtain ⟨e1q_2, e2q_2⟩ := q_2
  subst r_2
  subst s_2
  refine j_callV (pc := 5) (m_asked1 σ (bI (0 ≤ p ∧ p ≤ 4)) (bI_01 _)) (lw_V q1546 q1548 qs21 q48 q1549) rfl md_yX2_asked_2 (RC.ofM _ rfl) (by decide) (by decide) rfl (Nat.le_of_ble_eq_true rfl) dX2_seatsByBallots_5 (qI.k (fun r_5 s_5 q_5 => ?_))
  rcases q_5 with ⟨q_5a, rfl, rfl⟩ | ⟨q_5a, rfl, rfl⟩
  · have q_5_0 := bI_or ((0 ≤ p ∧ p ≤ 4))
    refine j_if_ne (pc := 8) (tgt := 13) dX2_seatsByBallots_8 (by decide) (by decide) (fun c_8 => ?_) (fun c_8 => ?_)
    · refine j_aload_n (pc := 13) dX2_seatsByBallots_13 rfl ?_
      refine m_getI (pc := 14) (v := σ.1 14) fa_X2_41_X2 (by decide) rfl rfl dX2_seatsByBallots_14 ?_
      have n_1 : 0 ≤ σ.1 14 ∧ σ.1 14 ≤ 5 := hB.1 14
      refine j_iconst (pc := 17) dX2_seatsByBallots_17 rfl ?_
      refine j_icmp_ge (pc := 18) (tgt := 23) dX2_seatsByBallots_18 (by decide) (by omega) (by decide) (fun c_18 => ?_) (fun c_18 => ?_)
      · refine j_aload_n (pc := 23) dX2_seatsByBallots_23 rfl ?_
        refine j_iconst (pc := 24) dX2_seatsByBallots_24 rfl ?_
        refine j_callV (pc := 25) (m_gives (setI σ 43 0) 1 (by decide) (Bd.i hB (by show 0 ≤ 0 ∧ 0 ≤ (3 : Int); omega)) (fun h => absurd h (by decide))) (lw_V q1737 q1739 qs40 q48 q1740) rfl md_yX2_gives (RC.ofM _ rfl) (by decide) (by decide) rfl (Nat.le_of_ble_eq_true rfl) dX2_seatsByBallots_25 (qV.k (fun s_25 q_25 => ?_))
        have g_25 := q_25.s
        have gs_25 : s_25.1 14 = σ.1 14 := g_25.1.1 14 (by decide) (by decide)
        refine j_aload_n (pc := 28) dX2_seatsByBallots_28 rfl ?_
        refine m_getA (pc := 29) fa_X2_90_X2 (by decide) (by decide) dX2_seatsByBallots_29 ?_
        refine j_iload_n (pc := 32) dX2_seatsByBallots_32 rfl ?_
        refine m_ld (pc := 33) (v := s_25.2 35 (p).toNat) (by decide) (by decide) rfl (by show 0 ≤ p ∧ p < ((5 : Nat) : Int); omega) rfl dX2_seatsByBallots_33 ?_
        have n_2 : 0 ≤ s_25.2 35 (p).toNat ∧ s_25.2 35 (p).toNat ≤ 30 := q_25.s.2.2 35 ((p).toNat)
        refine j_iret (pc := 34) rfl (hQ _ _ ?_) dX2_seatsByBallots_34
        exact Or.inl ⟨by unfold t1; (repeat' split) <;> omega, by rw [if_neg (by omega)]; exact q_25.g (by omega), q_25.s.1, q_25.s.2⟩
      · refine j_iconst (pc := 21) dX2_seatsByBallots_21 rfl ?_
        refine j_iret (pc := 22) rfl (hQ _ _ ?_) dX2_seatsByBallots_22
        exact Or.inl ⟨by unfold t1; (repeat' split) <;> omega, by (repeat' split) <;> first | rfl | omega, GS.refl _, (Bd.i hB (by show 0 ≤ 0 ∧ 0 ≤ (3 : Int); omega))⟩
    · exact absurd c_8 (by decide)
  · have q_5_0 := bI_or ((0 ≤ p ∧ p ≤ 4))
    refine j_if_ne (pc := 8) (tgt := 13) dX2_seatsByBallots_8 (by decide) (by decide) (fun c_8_1 => ?_) (fun c_8_1 => ?_)
    · exact absurd c_8_1 (by decide)
    · refine j_iconst (pc := 11) dX2_seatsByBallots_11 rfl ?_
      refine j_iret (pc := 12) rfl (hQ _ _ ?_) dX2_seatsByBallots_12
      exact Or.inr ⟨by unfold t1; (repeat' split) <;> omega, rfl, by congr 1; unfold t1; (repeat' split) <;> omega⟩

theorem md_yX2_digitAt : MD yX2_digitAt 2 := by decide +kernel
set_option maxHeartbeats 4000000 in
theorem m_signAt {Γ : GG} {l : Launch} {o : Nat} {ad : Nat → Nat} (σ : MM) (n : Int) (p : Int) (hn : RR n) (hp : RR p) (hB : Bd σ) : Ct Γ (AM o ad) (RepM Γ o ad) l yX2_signAt (ws_ yX2_signAt cX2_signAt 4 (some .int)) 4 0 0 [.ref o, IV n, IV p] σ (qI (fun (r : Int) (σ' : MM) => oEnd σ (t1 ((0 ≤ n ∧ n ≤ σ.1 42 - 1) ∧ 0 ≤ p)) (sSign σ n.toNat p) (σ0 σ) r σ')) X0 := by
  refine Ct.ofJ (own := RX2) (nm := "signAt") (lo := [some (.ref o), some (IV n), some (IV p), none]) pn_X2 rfl rfl (List.forall_mem_cons.mpr ⟨rfl, (List.forall_mem_cons.mpr ⟨rfl, (List.forall_mem_cons.mpr ⟨rfl, (fun _ h => nomatch h)⟩)⟩)⟩) (Nat.le_of_ble_eq_true rfl) rfl ?_
  have hQ : ∀ (r : Int) (σ' : MM), (oEnd σ (t1 ((0 ≤ n ∧ n ≤ σ.1 42 - 1) ∧ 0 ≤ p)) (sSign σ n.toNat p) (σ0 σ) r σ') → (qI (fun (r : Int) (σ' : MM) => oEnd σ (t1 ((0 ≤ n ∧ n ≤ σ.1 42 - 1) ∧ 0 ≤ p)) (sSign σ n.toNat p) (σ0 σ) r σ')) (some (IV r)) σ' := fun r σ' h => ⟨r, rfl, h⟩
  generalize (qI (fun (r : Int) (σ' : MM) => oEnd σ (t1 ((0 ≤ n ∧ n ≤ σ.1 42 - 1) ∧ 0 ≤ p)) (sSign σ n.toNat p) (σ0 σ) r σ')) = QP at hQ ⊢
  have n6 : 0 ≤ σ.1 6 ∧ σ.1 6 ≤ 5 := hB.1 6
  have n9 : 0 ≤ σ.1 9 ∧ σ.1 9 ≤ 20 := hB.1 9
  have n0 : 0 ≤ σ.1 0 ∧ σ.1 0 ≤ 2100 := hB.1 0
  have n14 : 0 ≤ σ.1 14 ∧ σ.1 14 ≤ 5 := hB.1 14
  have n26 : 0 ≤ σ.1 26 ∧ σ.1 26 ≤ 60 := hB.1 26
  have n42 : 0 ≤ σ.1 42 ∧ σ.1 42 ≤ 1000 := hB.1 42
  have n39 : 0 ≤ σ.2 39 n.toNat ∧ σ.2 39 n.toNat ≤ 2100 := hB.2 39 _
  have n41 : 0 ≤ σ.2 41 n.toNat ∧ σ.2 41 n.toNat ≤ 19 := hB.2 41 _
  have d39 := sDg_rng (σ.2 39 n.toNat)
  have d41 := sDg_rng (σ.2 41 n.toNat)
  refine j_aload_n (pc := 0) dX2_signAt_0 rfl ?_
  refine j_iload_n (pc := 1) dX2_signAt_1 rfl ?_
  refine j_iconst (pc := 2) dX2_signAt_2 rfl ?_
  refine j_aload_n (pc := 3) dX2_signAt_3 rfl ?_
  refine m_getI (pc := 4) (v := σ.1 42) fa_X2_162_X2 (by decide) rfl rfl dX2_signAt_4 ?_
  have n_1 : 0 ≤ σ.1 42 ∧ σ.1 42 ≤ 1000 := hB.1 42
  refine j_iconst (pc := 7) dX2_signAt_7 rfl ?_
  refine j_isub (pc := 8) dX2_signAt_8 ?_
  refine j_callS (pc := 9) (m_in σ n 0 ((σ.1 42) - 1) (by omega) (by decide) (by omega)) (lw_S q1532 q1533 q48 q1534) md_yX2_in (by decide) (by decide) rfl (Nat.le_of_ble_eq_true rfl) dX2_signAt_9 (qI.k (fun r_9 s_9 q_9 => ?_))
  obtain ⟨e1q_9, e2q_9⟩ := q_9
  subst r_9
  subst s_9
  refine j_ifb_eq (pc := 12) (tgt := 23) dX2_signAt_12 (by decide) (fun c_12 => ?_) (fun c_12 => ?_)
  · refine j_iconst (pc := 23) dX2_signAt_23 rfl ?_
    refine j_callV (pc := 24) (m_asked1 σ 0 (Or.inl rfl)) (lw_V q1546 q1548 qs21 q48 q1549) rfl md_yX2_asked_2 (RC.ofM _ rfl) (by decide) (by decide) rfl (Nat.le_of_ble_eq_true rfl) dX2_signAt_24 (qI.k (fun r_24 s_24 q_24 => ?_))
    rcases q_24 with ⟨q_24a, rfl, rfl⟩ | ⟨q_24a, rfl, rfl⟩
    · exact absurd q_24a (by decide)
    · have q_24b := q_24a
      refine j_if_ne (pc := 27) (tgt := 32) dX2_signAt_27 (by decide) (by decide) (fun c_27 => ?_) (fun c_27 => ?_)
      · exact absurd c_27 (by decide)
      · refine j_iconst (pc := 30) dX2_signAt_30 rfl ?_
        refine j_iret (pc := 31) rfl (hQ _ _ ?_) dX2_signAt_31
        exact Or.inr ⟨by unfold t1; (repeat' split) <;> omega, rfl, by congr 1; unfold t1; (repeat' split) <;> omega⟩
  · refine j_iload_n (pc := 15) dX2_signAt_15 rfl ?_
    refine j_if_lt (pc := 16) (tgt := 23) dX2_signAt_16 (by decide) (by omega) (fun c_16 => ?_) (fun c_16 => ?_)
    · refine j_iconst (pc := 23) dX2_signAt_23 rfl ?_
      refine j_callV (pc := 24) (m_asked1 σ 0 (Or.inl rfl)) (lw_V q1546 q1548 qs21 q48 q1549) rfl md_yX2_asked_2 (RC.ofM _ rfl) (by decide) (by decide) rfl (Nat.le_of_ble_eq_true rfl) dX2_signAt_24 (qI.k (fun r_24_1 s_24_1 q_24_1 => ?_))
      rcases q_24_1 with ⟨q_24_1a, rfl, rfl⟩ | ⟨q_24_1a, rfl, rfl⟩
      · exact absurd q_24_1a (by decide)
      · have q_24_1b := q_24_1a
        refine j_if_ne (pc := 27) (tgt := 32) dX2_signAt_27 (by decide) (by decide) (fun c_27_1 => ?_) (fun c_27_1 => ?_)
        · exact absurd c_27_1 (by decide)
        · refine j_iconst (pc := 30) dX2_signAt_30 rfl ?_
          refine j_iret (pc := 31) rfl (hQ _ _ ?_) dX2_signAt_31
          exact Or.inr ⟨by unfold t1; (repeat' split) <;> omega, rfl, by congr 1; unfold t1; (repeat' split) <;> omega⟩
    · refine j_iconst (pc := 19) dX2_signAt_19 rfl ?_
      refine j_goto (pc := 20) (tgt := 24) dX2_signAt_20 (by decide) ?_
      refine j_callV (pc := 24) (m_asked1 σ 1 (Or.inr rfl)) (lw_V q1546 q1548 qs21 q48 q1549) rfl md_yX2_asked_2 (RC.ofM _ rfl) (by decide) (by decide) rfl (Nat.le_of_ble_eq_true rfl) dX2_signAt_24 (qI.k (fun r_24_1 s_24_1 q_24_1 => ?_))
      rcases q_24_1 with ⟨q_24_1a, rfl, rfl⟩ | ⟨q_24_1a, rfl, rfl⟩
      · have q_24_1b := q_24_1a
        refine j_if_ne (pc := 27) (tgt := 32) dX2_signAt_27 (by decide) (by decide) (fun c_27_1 => ?_) (fun c_27_1 => ?_)
        · refine j_aload_n (pc := 32) dX2_signAt_32 rfl ?_
          refine m_getA (pc := 33) fa_X2_96_X2 (by decide) (by decide) dX2_signAt_33 ?_
          refine j_iload_n (pc := 36) dX2_signAt_36 rfl ?_
          refine m_ld (pc := 37) (v := σ.2 39 (n).toNat) (by decide) (by decide) rfl (by show 0 ≤ n ∧ n < ((1000 : Nat) : Int); omega) rfl dX2_signAt_37 ?_
          have n_2 : 0 ≤ σ.2 39 (n).toNat ∧ σ.2 39 (n).toNat ≤ 2100 := hB.2 39 ((n).toNat)
          refine j_callS (pc := 38) (m_digits (setI σ 43 0) (σ.2 39 (n).toNat) (by omega)) (lw_S q1774 q1775 q48 q1776) md_yX2_digits (by decide) (by decide) rfl (Nat.le_of_ble_eq_true rfl) dX2_signAt_38 (qI.k (fun r_38 s_38 q_38 => ?_))
          obtain ⟨e1q_38, e2q_38⟩ := q_38
          subst r_38
          subst s_38
          refine j_istore_n (pc := 41) dX2_signAt_41 (by decide) (lo' := [some (.ref o), some (IV n), some (IV p), some (IV (sDg (σ.2 39 (n).toNat)))]) rfl ?_
          refine j_iload_n (pc := 42) dX2_signAt_42 rfl ?_
          refine j_iload_n (pc := 43) dX2_signAt_43 rfl ?_
          refine j_icmp_ge (pc := 44) (tgt := 58) dX2_signAt_44 (by decide) (by omega) (by omega) (fun c_44 => ?_) (fun c_44 => ?_)
          · refine j_iload_n (pc := 58) dX2_signAt_58 rfl ?_
            refine j_iload_n (pc := 59) dX2_signAt_59 rfl ?_
            refine j_icmp_ne (pc := 60) (tgt := 70) dX2_signAt_60 (by decide) (by omega) (by omega) (fun c_60 => ?_) (fun c_60 => ?_)
            · refine j_iload_n (pc := 70) dX2_signAt_70 rfl ?_
              refine j_iload_n (pc := 71) dX2_signAt_71 rfl ?_
              refine j_isub (pc := 72) dX2_signAt_72 ?_
              refine j_iconst (pc := 73) dX2_signAt_73 rfl ?_
              refine j_isub (pc := 74) dX2_signAt_74 ?_
              refine j_aload_n (pc := 75) dX2_signAt_75 rfl ?_
              refine m_getA (pc := 76) fa_X2_102_X2 (by decide) (by decide) dX2_signAt_76 ?_
              refine j_iload_n (pc := 79) dX2_signAt_79 rfl ?_
              refine m_ld (pc := 80) (v := σ.2 41 (n).toNat) (by decide) (by decide) rfl (by show 0 ≤ n ∧ n < ((1000 : Nat) : Int); omega) rfl dX2_signAt_80 ?_
              have n_3 : 0 ≤ σ.2 41 (n).toNat ∧ σ.2 41 (n).toNat ≤ 19 := hB.2 41 ((n).toNat)
              refine j_callS (pc := 81) (m_digits (setI σ 43 0) (σ.2 41 (n).toNat) (by omega)) (lw_S q1774 q1775 q48 q1776) md_yX2_digits (by decide) (by decide) rfl (Nat.le_of_ble_eq_true rfl) dX2_signAt_81 (qI.k (fun r_81 s_81 q_81 => ?_))
              obtain ⟨e1q_81, e2q_81⟩ := q_81
              subst r_81
              subst s_81
              refine j_icmp_ge (pc := 84) (tgt := 104) dX2_signAt_84 (by decide) (by omega) (by omega) (fun c_84 => ?_) (fun c_84 => ?_)
              · refine j_iconst (pc := 104) dX2_signAt_104 rfl ?_
                refine j_iret (pc := 105) rfl (hQ _ _ ?_) dX2_signAt_105
                exact Or.inl ⟨by unfold t1; (repeat' split) <;> omega, by unfold sSign; (repeat' split) <;> first | rfl | omega, rfl⟩
              · refine j_aload_n (pc := 87) dX2_signAt_87 rfl ?_
                refine m_getA (pc := 88) fa_X2_102_X2 (by decide) (by decide) dX2_signAt_88 ?_
                refine j_iload_n (pc := 91) dX2_signAt_91 rfl ?_
                refine m_ld (pc := 92) (v := σ.2 41 (n).toNat) (by decide) (by decide) rfl (by show 0 ≤ n ∧ n < ((1000 : Nat) : Int); omega) rfl dX2_signAt_92 ?_
                refine j_iload_n (pc := 93) dX2_signAt_93 rfl ?_
                refine j_iload_n (pc := 94) dX2_signAt_94 rfl ?_
                refine j_isub (pc := 95) dX2_signAt_95 ?_
                refine j_iconst (pc := 96) dX2_signAt_96 rfl ?_
                refine j_isub (pc := 97) dX2_signAt_97 ?_
                refine j_callS (pc := 98) (m_digitAt (setI σ 43 0) (σ.2 41 (n).toNat) ((p - (sDg (σ.2 39 (n).toNat))) - 1) (by omega) (by omega) (by omega)) (lw_S q1777 q1778 q48 q1779) md_yX2_digitAt (by decide) (by decide) rfl (Nat.le_of_ble_eq_true rfl) dX2_signAt_98 (qI.k (fun r_98 s_98 q_98 => ?_))
                obtain ⟨e1q_98, e2q_98⟩ := q_98
                subst r_98
                subst s_98
                refine j_goto (pc := 101) (tgt := 105) dX2_signAt_101 (by decide) ?_
                refine j_iret (pc := 105) rfl (hQ _ _ ?_) dX2_signAt_105
                exact Or.inl ⟨by unfold t1; (repeat' split) <;> omega, by unfold sSign; (repeat' split) <;> first | rfl | omega, rfl⟩
            · refine j_aload_n (pc := 63) dX2_signAt_63 rfl ?_
              refine m_getA (pc := 64) fa_X2_99_X2 (by decide) (by decide) dX2_signAt_64 ?_
              refine j_iload_n (pc := 67) dX2_signAt_67 rfl ?_
              refine m_ld (pc := 68) (v := σ.2 40 (n).toNat) (by decide) (by decide) rfl (by show 0 ≤ n ∧ n < ((1000 : Nat) : Int); omega) rfl dX2_signAt_68 ?_
              have n_4 : 0 ≤ σ.2 40 (n).toNat ∧ σ.2 40 (n).toNat ≤ 127 := hB.2 40 ((n).toNat)
              refine j_iret (pc := 69) rfl (hQ _ _ ?_) dX2_signAt_69
              exact Or.inl ⟨by unfold t1; (repeat' split) <;> omega, by unfold sSign; (repeat' split) <;> first | rfl | omega, rfl⟩
          · refine j_aload_n (pc := 47) dX2_signAt_47 rfl ?_
            refine m_getA (pc := 48) fa_X2_96_X2 (by decide) (by decide) dX2_signAt_48 ?_
            refine j_iload_n (pc := 51) dX2_signAt_51 rfl ?_
            refine m_ld (pc := 52) (v := σ.2 39 (n).toNat) (by decide) (by decide) rfl (by show 0 ≤ n ∧ n < ((1000 : Nat) : Int); omega) rfl dX2_signAt_52 ?_
            refine j_iload_n (pc := 53) dX2_signAt_53 rfl ?_
            refine j_callS (pc := 54) (m_digitAt (setI σ 43 0) (σ.2 39 (n).toNat) p (by omega) (by omega) (by omega)) (lw_S q1777 q1778 q48 q1779) md_yX2_digitAt (by decide) (by decide) rfl (Nat.le_of_ble_eq_true rfl) dX2_signAt_54 (qI.k (fun r_54 s_54 q_54 => ?_))
            obtain ⟨e1q_54, e2q_54⟩ := q_54
            subst r_54
            subst s_54
            refine j_iret (pc := 57) rfl (hQ _ _ ?_) dX2_signAt_57
            exact Or.inl ⟨by unfold t1; (repeat' split) <;> omega, by unfold sSign; (repeat' split) <;> first | rfl | omega, rfl⟩
        · exact absurd c_27_1 (by decide)
      · exact absurd q_24_1a (by decide)

theorem md_yX2_areAlike : MD yX2_areAlike 2 := by decide +kernel
set_option maxHeartbeats 4000000 in
theorem m_count {Γ : GG} {l : Launch} {o : Nat} {ad : Nat → Nat} (σ : MM) (s : Int) (c : Int) (hs : RR s) (hc : RR c) (hn : σ.1 42 < 900) (hB : Bd σ) : Ct Γ (AM o ad) (RepM Γ o ad) l yX2_count (ws_ yX2_count cX2_count 7 (some .boolean)) 4 0 0 [.ref o, IV s, IV c] σ (qI (fun (r : Int) (σ' : MM) => oEnd σ (t2 (isS σ s ∧ 0 ≤ c ∧ c ≤ 3) (σ.1 14 = 4 ∧ s < σ.1 19 ∧ σ.2 32 s.toNat = -1 ∧ σ.2 31 s.toNat < 8)) (bI ((sCount (σ0 σ) s c).2 32 s.toNat ≠ -1)) (sCount (σ0 σ) s c) r σ')) X0 := by
  refine Ct.ofJ (own := RX2) (nm := "count") (lo := [some (.ref o), some (IV s), some (IV c), none, none, none, none]) pn_X2 rfl rfl (List.forall_mem_cons.mpr ⟨rfl, (List.forall_mem_cons.mpr ⟨rfl, (List.forall_mem_cons.mpr ⟨rfl, (fun _ h => nomatch h)⟩)⟩)⟩) (Nat.le_of_ble_eq_true rfl) rfl ?_
  have hQ : ∀ (r : Int) (σ' : MM), (oEnd σ (t2 (isS σ s ∧ 0 ≤ c ∧ c ≤ 3) (σ.1 14 = 4 ∧ s < σ.1 19 ∧ σ.2 32 s.toNat = -1 ∧ σ.2 31 s.toNat < 8)) (bI ((sCount (σ0 σ) s c).2 32 s.toNat ≠ -1)) (sCount (σ0 σ) s c) r σ') → (qI (fun (r : Int) (σ' : MM) => oEnd σ (t2 (isS σ s ∧ 0 ≤ c ∧ c ≤ 3) (σ.1 14 = 4 ∧ s < σ.1 19 ∧ σ.2 32 s.toNat = -1 ∧ σ.2 31 s.toNat < 8)) (bI ((sCount (σ0 σ) s c).2 32 s.toNat ≠ -1)) (sCount (σ0 σ) s c) r σ')) (some (IV r)) σ' := fun r σ' h => ⟨r, rfl, h⟩
  generalize (qI (fun (r : Int) (σ' : MM) => oEnd σ (t2 (isS σ s ∧ 0 ≤ c ∧ c ≤ 3) (σ.1 14 = 4 ∧ s < σ.1 19 ∧ σ.2 32 s.toNat = -1 ∧ σ.2 31 s.toNat < 8)) (bI ((sCount (σ0 σ) s c).2 32 s.toNat ≠ -1)) (sCount (σ0 σ) s c) r σ')) = QP at hQ ⊢
  have n6 : 0 ≤ σ.1 6 ∧ σ.1 6 ≤ 5 := hB.1 6
  have n9 : 0 ≤ σ.1 9 ∧ σ.1 9 ≤ 20 := hB.1 9
  have n0 : 0 ≤ σ.1 0 ∧ σ.1 0 ≤ 2100 := hB.1 0
  have n14 : 0 ≤ σ.1 14 ∧ σ.1 14 ≤ 5 := hB.1 14
  have n26 : 0 ≤ σ.1 26 ∧ σ.1 26 ≤ 60 := hB.1 26
  have n42 : 0 ≤ σ.1 42 := (hB.1 42).1
  have n19 : 0 ≤ σ.1 19 ∧ σ.1 19 ≤ 5 := hB.1 19
  have n31 : 0 ≤ σ.2 31 s.toNat := (hB.2 31 _).1
  have n28 : 0 ≤ σ.2 28 s.toNat ∧ σ.2 28 s.toNat ≤ 20 := hB.2 28 _
  refine j_aload_n (pc := 0) dX2_count_0 rfl ?_
  refine j_iload_n (pc := 1) dX2_count_1 rfl ?_
  refine j_callV (pc := 2) (m_isStation σ s (by omega) (show 0 ≤ σ.1 6 ∧ σ.1 6 ≤ 5 by omega)) (lw_V q1566 q1568 qs24 q48 q1569) rfl md_yX2_isStation (RC.ofM _ rfl) (by decide) (by decide) rfl (Nat.le_of_ble_eq_true rfl) dX2_count_2 (qI.k (fun r_2 s_2 q_2 => ?_))
  obtain ⟨e1q_2, e2q_2⟩ := q_2
  subst r_2
  subst s_2
  refine j_ifb_eq (pc := 5) (tgt := 21) dX2_count_5 (by decide) (fun c_5 => ?_) (fun c_5 => ?_)
  · refine j_iconst (pc := 21) dX2_count_21 rfl ?_
    refine j_istore_n (pc := 22) dX2_count_22 (by decide) (lo' := [some (.ref o), some (IV s), some (IV c), some (IV 0), none, none, none]) rfl ?_
    refine j_aload_n (pc := 23) dX2_count_23 rfl ?_
    refine j_iload_n (pc := 24) dX2_count_24 rfl ?_
    refine j_iload_n (pc := 25) dX2_count_25 rfl ?_
    refine j_if_eq (pc := 26) (tgt := 70) dX2_count_26 (by decide) (by decide) (fun c_26 => ?_) (fun c_26 => ?_)
    · refine j_iconst (pc := 70) dX2_count_70 rfl ?_
      refine j_callV (pc := 71) (m_asked2 σ 0 0 (Or.inl rfl) (Or.inl rfl)) (lw_V q1538 q1540 qs20 q48 q1541) rfl md_yX2_asked (RC.ofM _ rfl) (by decide) (by decide) rfl (Nat.le_of_ble_eq_true rfl) dX2_count_71 (qI.k (fun r_71 s_71 q_71 => ?_))
      rcases q_71 with ⟨q_71a, rfl, rfl⟩ | ⟨q_71a, rfl, rfl⟩
      · exact absurd q_71a (by simp)
      · have q_71b := q_71a
        refine j_if_ne (pc := 74) (tgt := 79) dX2_count_74 (by decide) (by decide) (fun c_74 => ?_) (fun c_74 => ?_)
        · exact absurd c_74 (by decide)
        · refine j_iconst (pc := 77) dX2_count_77 rfl ?_
          refine j_zret (pc := 78) rfl (Or.inl rfl) (hQ _ _ ?_) dX2_count_78
          exact Or.inr ⟨by unfold t2; (repeat' split) <;> omega, by rfl, by congr 1; unfold t2; (repeat' split) <;> omega⟩
    · exact absurd c_26 (by decide)
  · refine j_iload_n (pc := 8) dX2_count_8 rfl ?_
    refine j_iconst (pc := 9) dX2_count_9 rfl ?_
    refine j_iconst (pc := 10) dX2_count_10 rfl ?_
    refine j_callS (pc := 11) (m_in σ c 0 3 (by omega) (by decide) (by decide)) (lw_S q1532 q1533 q48 q1534) md_yX2_in (by decide) (by decide) rfl (Nat.le_of_ble_eq_true rfl) dX2_count_11 (qI.k (fun r_11 s_11 q_11 => ?_))
    obtain ⟨e1q_11, e2q_11⟩ := q_11
    subst r_11
    subst s_11
    refine j_ifb_eq (pc := 14) (tgt := 21) dX2_count_14 (by decide) (fun c_14 => ?_) (fun c_14 => ?_)
    · refine j_iconst (pc := 21) dX2_count_21 rfl ?_
      refine j_istore_n (pc := 22) dX2_count_22 (by decide) (lo' := [some (.ref o), some (IV s), some (IV c), some (IV 0), none, none, none]) rfl ?_
      refine j_aload_n (pc := 23) dX2_count_23 rfl ?_
      refine j_iload_n (pc := 24) dX2_count_24 rfl ?_
      refine j_iload_n (pc := 25) dX2_count_25 rfl ?_
      refine j_if_eq (pc := 26) (tgt := 70) dX2_count_26 (by decide) (by decide) (fun c_26_1 => ?_) (fun c_26_1 => ?_)
      · refine j_iconst (pc := 70) dX2_count_70 rfl ?_
        refine j_callV (pc := 71) (m_asked2 σ 0 0 (Or.inl rfl) (Or.inl rfl)) (lw_V q1538 q1540 qs20 q48 q1541) rfl md_yX2_asked (RC.ofM _ rfl) (by decide) (by decide) rfl (Nat.le_of_ble_eq_true rfl) dX2_count_71 (qI.k (fun r_71_1 s_71_1 q_71_1 => ?_))
        rcases q_71_1 with ⟨q_71_1a, rfl, rfl⟩ | ⟨q_71_1a, rfl, rfl⟩
        · exact absurd q_71_1a (by simp)
        · have q_71_1b := q_71_1a
          refine j_if_ne (pc := 74) (tgt := 79) dX2_count_74 (by decide) (by decide) (fun c_74_1 => ?_) (fun c_74_1 => ?_)
          · exact absurd c_74_1 (by decide)
          · refine j_iconst (pc := 77) dX2_count_77 rfl ?_
            refine j_zret (pc := 78) rfl (Or.inl rfl) (hQ _ _ ?_) dX2_count_78
            exact Or.inr ⟨by unfold t2; (repeat' split) <;> omega, by rfl, by congr 1; unfold t2; (repeat' split) <;> omega⟩
      · exact absurd c_26_1 (by decide)
    · refine j_iconst (pc := 17) dX2_count_17 rfl ?_
      refine j_goto (pc := 18) (tgt := 22) dX2_count_18 (by decide) ?_
      refine j_istore_n (pc := 22) dX2_count_22 (by decide) (lo' := [some (.ref o), some (IV s), some (IV c), some (IV 1), none, none, none]) rfl ?_
      refine j_aload_n (pc := 23) dX2_count_23 rfl ?_
      refine j_iload_n (pc := 24) dX2_count_24 rfl ?_
      refine j_iload_n (pc := 25) dX2_count_25 rfl ?_
      refine j_if_eq (pc := 26) (tgt := 70) dX2_count_26 (by decide) (by decide) (fun c_26_1 => ?_) (fun c_26_1 => ?_)
      · exact absurd c_26_1 (by decide)
      · refine j_aload_n (pc := 29) dX2_count_29 rfl ?_
        refine m_getI (pc := 30) (v := σ.1 14) fa_X2_41_X2 (by decide) rfl rfl dX2_count_30 ?_
        have n_1 : 0 ≤ σ.1 14 ∧ σ.1 14 ≤ 5 := hB.1 14
        refine j_iconst (pc := 33) dX2_count_33 rfl ?_
        refine j_icmp_ne (pc := 34) (tgt := 70) dX2_count_34 (by decide) (by omega) (by decide) (fun c_34 => ?_) (fun c_34 => ?_)
        · refine j_iconst (pc := 70) dX2_count_70 rfl ?_
          refine j_callV (pc := 71) (m_asked2 σ 1 0 (Or.inr rfl) (Or.inl rfl)) (lw_V q1538 q1540 qs20 q48 q1541) rfl md_yX2_asked (RC.ofM _ rfl) (by decide) (by decide) rfl (Nat.le_of_ble_eq_true rfl) dX2_count_71 (qI.k (fun r_71_1 s_71_1 q_71_1 => ?_))
          rcases q_71_1 with ⟨q_71_1a, rfl, rfl⟩ | ⟨q_71_1a, rfl, rfl⟩
          · exact absurd q_71_1a (by simp)
          · have q_71_1b := q_71_1a
            refine j_if_ne (pc := 74) (tgt := 79) dX2_count_74 (by decide) (by decide) (fun c_74_1 => ?_) (fun c_74_1 => ?_)
            · exact absurd c_74_1 (by decide)
            · refine j_iconst (pc := 77) dX2_count_77 rfl ?_
              refine j_zret (pc := 78) rfl (Or.inl rfl) (hQ _ _ ?_) dX2_count_78
              exact Or.inr ⟨by unfold t2; (repeat' split) <;> omega, by rfl, by congr 1; unfold t2; (repeat' split) <;> omega⟩
        · refine j_iload_n (pc := 37) dX2_count_37 rfl ?_
          refine j_aload_n (pc := 38) dX2_count_38 rfl ?_
          refine m_getI (pc := 39) (v := σ.1 19) fa_X2_178_X2 (by decide) rfl rfl dX2_count_39 ?_
          have n_2 : 0 ≤ σ.1 19 ∧ σ.1 19 ≤ 5 := hB.1 19
          refine j_icmp_ge (pc := 42) (tgt := 70) dX2_count_42 (by decide) (by omega) (by omega) (fun c_42 => ?_) (fun c_42 => ?_)
          · refine j_iconst (pc := 70) dX2_count_70 rfl ?_
            refine j_callV (pc := 71) (m_asked2 σ 1 0 (Or.inr rfl) (Or.inl rfl)) (lw_V q1538 q1540 qs20 q48 q1541) rfl md_yX2_asked (RC.ofM _ rfl) (by decide) (by decide) rfl (Nat.le_of_ble_eq_true rfl) dX2_count_71 (qI.k (fun r_71_1 s_71_1 q_71_1 => ?_))
            rcases q_71_1 with ⟨q_71_1a, rfl, rfl⟩ | ⟨q_71_1a, rfl, rfl⟩
            · exact absurd q_71_1a (by simp)
            · have q_71_1b := q_71_1a
              refine j_if_ne (pc := 74) (tgt := 79) dX2_count_74 (by decide) (by decide) (fun c_74_1 => ?_) (fun c_74_1 => ?_)
              · exact absurd c_74_1 (by decide)
              · refine j_iconst (pc := 77) dX2_count_77 rfl ?_
                refine j_zret (pc := 78) rfl (Or.inl rfl) (hQ _ _ ?_) dX2_count_78
                exact Or.inr ⟨by unfold t2; (repeat' split) <;> omega, by rfl, by congr 1; unfold t2; (repeat' split) <;> omega⟩
          · refine j_aload_n (pc := 45) dX2_count_45 rfl ?_
            refine m_getA (pc := 46) fa_X2_81_X2 (by decide) (by decide) dX2_count_46 ?_
            refine j_iload_n (pc := 49) dX2_count_49 rfl ?_
            refine m_ld (pc := 50) (v := σ.2 32 (s).toNat) (by decide) (by decide) rfl (by show 0 ≤ s ∧ s < ((5 : Nat) : Int); omega) rfl dX2_count_50 ?_
            have n_3 : (-1) ≤ σ.2 32 (s).toNat ∧ σ.2 32 (s).toNat ≤ 39 := hB.2 32 ((s).toNat)
            refine j_iconst (pc := 51) dX2_count_51 rfl ?_
            refine j_icmp_ne (pc := 52) (tgt := 70) dX2_count_52 (by decide) (by omega) (by decide) (fun c_52 => ?_) (fun c_52 => ?_)
            · refine j_iconst (pc := 70) dX2_count_70 rfl ?_
              refine j_callV (pc := 71) (m_asked2 σ 1 0 (Or.inr rfl) (Or.inl rfl)) (lw_V q1538 q1540 qs20 q48 q1541) rfl md_yX2_asked (RC.ofM _ rfl) (by decide) (by decide) rfl (Nat.le_of_ble_eq_true rfl) dX2_count_71 (qI.k (fun r_71_1 s_71_1 q_71_1 => ?_))
              rcases q_71_1 with ⟨q_71_1a, rfl, rfl⟩ | ⟨q_71_1a, rfl, rfl⟩
              · exact absurd q_71_1a (by simp)
              · have q_71_1b := q_71_1a
                refine j_if_ne (pc := 74) (tgt := 79) dX2_count_74 (by decide) (by decide) (fun c_74_1 => ?_) (fun c_74_1 => ?_)
                · exact absurd c_74_1 (by decide)
                · refine j_iconst (pc := 77) dX2_count_77 rfl ?_
                  refine j_zret (pc := 78) rfl (Or.inl rfl) (hQ _ _ ?_) dX2_count_78
                  exact Or.inr ⟨by unfold t2; (repeat' split) <;> omega, by rfl, by congr 1; unfold t2; (repeat' split) <;> omega⟩
            · refine j_aload_n (pc := 55) dX2_count_55 rfl ?_
              refine m_getA (pc := 56) fa_X2_78_X2 (by decide) (by decide) dX2_count_56 ?_
              refine j_iload_n (pc := 59) dX2_count_59 rfl ?_
              refine m_ld (pc := 60) (v := σ.2 31 (s).toNat) (by decide) (by decide) rfl (by show 0 ≤ s ∧ s < ((5 : Nat) : Int); omega) rfl dX2_count_60 ?_
              have n_4 : 0 ≤ σ.2 31 (s).toNat ∧ σ.2 31 (s).toNat ≤ 8 := hB.2 31 ((s).toNat)
              refine j_bipush (pc := 61) (a := 8) dX2_count_61 (by decide) ?_
              refine j_icmp_ge (pc := 63) (tgt := 70) dX2_count_63 (by decide) (by omega) (by decide) (fun c_63 => ?_) (fun c_63 => ?_)
              · refine j_iconst (pc := 70) dX2_count_70 rfl ?_
                refine j_callV (pc := 71) (m_asked2 σ 1 0 (Or.inr rfl) (Or.inl rfl)) (lw_V q1538 q1540 qs20 q48 q1541) rfl md_yX2_asked (RC.ofM _ rfl) (by decide) (by decide) rfl (Nat.le_of_ble_eq_true rfl) dX2_count_71 (qI.k (fun r_71_1 s_71_1 q_71_1 => ?_))
                rcases q_71_1 with ⟨q_71_1a, rfl, rfl⟩ | ⟨q_71_1a, rfl, rfl⟩
                · exact absurd q_71_1a (by simp)
                · have q_71_1b := q_71_1a
                  refine j_if_ne (pc := 74) (tgt := 79) dX2_count_74 (by decide) (by decide) (fun c_74_1 => ?_) (fun c_74_1 => ?_)
                  · exact absurd c_74_1 (by decide)
                  · refine j_iconst (pc := 77) dX2_count_77 rfl ?_
                    refine j_zret (pc := 78) rfl (Or.inl rfl) (hQ _ _ ?_) dX2_count_78
                    exact Or.inr ⟨by unfold t2; (repeat' split) <;> omega, by rfl, by congr 1; unfold t2; (repeat' split) <;> omega⟩
              · refine j_iconst (pc := 66) dX2_count_66 rfl ?_
                refine j_goto (pc := 67) (tgt := 71) dX2_count_67 (by decide) ?_
                refine j_callV (pc := 71) (m_asked2 σ 1 1 (Or.inr rfl) (Or.inr rfl)) (lw_V q1538 q1540 qs20 q48 q1541) rfl md_yX2_asked (RC.ofM _ rfl) (by decide) (by decide) rfl (Nat.le_of_ble_eq_true rfl) dX2_count_71 (qI.k (fun r_71_1 s_71_1 q_71_1 => ?_))
                rcases q_71_1 with ⟨q_71_1a, rfl, rfl⟩ | ⟨q_71_1a, rfl, rfl⟩
                · have q_71_1b := q_71_1a
                  refine j_if_ne (pc := 74) (tgt := 79) dX2_count_74 (by decide) (by decide) (fun c_74_1 => ?_) (fun c_74_1 => ?_)
                  · refine j_bipush (pc := 79) (a := 8) dX2_count_79 (by decide) ?_
                    refine j_iload_n (pc := 81) dX2_count_81 rfl ?_
                    refine j_imul (pc := 82) dX2_count_82 ?_
                    refine j_aload_n (pc := 83) dX2_count_83 rfl ?_
                    refine m_getA (pc := 84) fa_X2_78_X2 (by decide) (by decide) dX2_count_84 ?_
                    refine j_iload_n (pc := 87) dX2_count_87 rfl ?_
                    refine m_ld (pc := 88) (v := σ.2 31 (s).toNat) (by decide) (by decide) rfl (by show 0 ≤ s ∧ s < ((5 : Nat) : Int); omega) rfl dX2_count_88 ?_
                    refine j_iadd (pc := 89) dX2_count_89 ?_
                    refine j_nameI (fun x_90 ex_90 => ?_)
                    refine j_istore (pc := 90) dX2_count_90 (by decide) (lo' := [some (.ref o), some (IV s), some (IV c), some (IV 1), some (IV x_90), none, none]) rfl ?_
                    refine j_aload_n (pc := 92) dX2_count_92 rfl ?_
                    refine m_getA (pc := 93) fa_X2_75_X2 (by decide) (by decide) dX2_count_93 ?_
                    refine j_iload (pc := 96) dX2_count_96 rfl ?_
                    refine j_iload_n (pc := 98) dX2_count_98 rfl ?_
                    refine m_st (pc := 99) (by decide) (by decide) rfl (by show 0 ≤ x_90 ∧ x_90 < ((40 : Nat) : Int); omega) dX2_count_99 ?_
                    refine j_iconst (pc := 100) dX2_count_100 rfl ?_
                    refine j_istore (pc := 101) dX2_count_101 (by decide) (lo' := [some (.ref o), some (IV s), some (IV c), some (IV 1), some (IV x_90), some (IV 0), none]) rfl ?_
                    have hl_103 : ∀ (fu : Nat) (k : Nat), 6 - k < fu → k ≤ 6 → J Γ (AM o ad) (RepM Γ o ad) l RX2 "count" cX2_count 7 (some .boolean) [] 4 0 0 QP X0 0 0 (sCz (setA (setI σ 43 0) 30 x_90.toNat c) x_90 k) 103 [some (.ref o), some (IV s), some (IV c), some (IV 1), some (IV x_90), some (IV (k : Int)), none] [] := by
                      intro fu
                      induction fu with
                      | zero => intro k hm; exact absurd hm (Nat.not_lt_zero _)
                      | succ fu ih_103 =>
                        intro k hm hk
                        refine j_iload (pc := 103) dX2_count_103 rfl ?_
                        refine j_bipush (pc := 105) (a := 6) dX2_count_105 (by decide) ?_
                        refine j_icmp_ge (pc := 107) (tgt := 130) dX2_count_107 (by decide) (by omega) (by decide) (fun c_107 => ?_) (fun c_107 => ?_)
                        · obtain rfl : k = 6 := by omega
                          refine j_iconst (pc := 130) dX2_count_130 rfl ?_
                          refine j_istore (pc := 131) dX2_count_131 (by decide) (lo' := [some (.ref o), some (IV s), some (IV c), some (IV 1), some (IV x_90), some (IV 0), none]) rfl ?_
                          have hl_133 : ∀ (fu : Nat) (k : Nat) (t : MM), 20 - k < fu → (k : Int) ≤ σ.2 28 s.toNat → t = sCt (sCz (setA (setI σ 43 0) 30 x_90.toNat c) x_90 6) s c x_90 k → CB t x_90 k → t.2 28 = σ.2 28 → t.2 33 = σ.2 33 → t.2 31 = σ.2 31 → J Γ (AM o ad) (RepM Γ o ad) l RX2 "count" cX2_count 7 (some .boolean) [] 4 0 0 QP X0 0 0 t 133 [some (.ref o), some (IV s), some (IV c), some (IV 1), some (IV x_90), some (IV (k : Int)), none] [] := by
                            intro fu
                            induction fu with
                            | zero => intro k t hm; exact absurd hm (Nat.not_lt_zero _)
                            | succ fu ih_133 =>
                              intro k t hm hk ht hCB h28 h33 h31
                              have hBt := hCB.1
                              have f28 : t.2 28 s.toNat = σ.2 28 s.toNat := by rw [h28]
                              refine j_iload (pc := 133) dX2_count_133 rfl ?_
                              refine j_aload_n (pc := 135) dX2_count_135 rfl ?_
                              refine m_getA (pc := 136) fa_X2_69_X2 (by decide) (by decide) dX2_count_136 ?_
                              refine j_iload_n (pc := 139) dX2_count_139 rfl ?_
                              refine m_ld (pc := 140) (v := t.2 28 (s).toNat) (by decide) (by decide) rfl (by show 0 ≤ s ∧ s < ((5 : Nat) : Int); omega) rfl dX2_count_140 ?_
                              have n_5 : 0 ≤ t.2 28 (s).toNat ∧ t.2 28 (s).toNat ≤ 20 := hBt.2 28 ((s).toNat)
                              refine j_icmp_ge (pc := 141) (tgt := 221) dX2_count_141 (by decide) (by omega) (by omega) (fun c_141 => ?_) (fun c_141 => ?_)
                              · have hk9 : k = (σ.2 28 s.toNat).toNat := by omega
                                rw [hk9] at ht
                                have gt : ∀ j9, t.1 j9 = (setI σ 43 0).1 j9 := fun j9 => by rw [ht, (sCt_fr _ _ _ _ _).1, (sCz_fr _ _ _).1]; rfl
                                have f31 : t.2 31 s.toNat = σ.2 31 s.toNat := by rw [h31]
                                refine j_aload_n (pc := 221) dX2_count_221 rfl ?_
                                refine m_getA (pc := 222) fa_X2_78_X2 (by decide) (by decide) dX2_count_222 ?_
                                refine j_iload_n (pc := 225) dX2_count_225 rfl ?_
                                refine j_dup2 (pc := 226) dX2_count_226 rfl rfl ?_
                                refine m_ld (pc := 227) (v := t.2 31 (s).toNat) (by decide) (by decide) rfl (by show 0 ≤ s ∧ s < ((5 : Nat) : Int); omega) rfl dX2_count_227 ?_
                                have n_6 : 0 ≤ t.2 31 (s).toNat ∧ t.2 31 (s).toNat ≤ 8 := hBt.2 31 ((s).toNat)
                                refine j_iconst (pc := 228) dX2_count_228 rfl ?_
                                refine j_iadd (pc := 229) dX2_count_229 ?_
                                refine m_st (pc := 230) (by decide) (by decide) rfl (by show 0 ≤ s ∧ s < ((5 : Nat) : Int); omega) dX2_count_230 ?_
                                refine j_bipush (pc := 231) (a := 8) dX2_count_231 (by decide) ?_
                                refine j_iload_n (pc := 233) dX2_count_233 rfl ?_
                                refine j_imul (pc := 234) dX2_count_234 ?_
                                refine j_istore (pc := 235) dX2_count_235 (by decide) (lo' := [some (.ref o), some (IV s), some (IV c), some (IV 1), some (IV x_90), some (IV (8 * s)), none]) rfl ?_
                                have hl_237 : ∀ (fu : Nat) (j : Nat) (k2 : Int) (u : MM), 8 - j < fu → (j : Int) ≤ σ.2 31 s.toNat → k2 = 8 * s + j → u = sSt (setA t 31 s.toNat (t.2 31 s.toNat + 1)) s x_90 j → Bd u → u.1 42 = σ.1 42 → u.1 19 = σ.1 19 → u.1 14 = σ.1 14 → u.1 0 = σ.1 0 → J Γ (AM o ad) (RepM Γ o ad) l RX2 "count" cX2_count 7 (some .boolean) [] 4 0 0 QP X0 0 0 u 237 [some (.ref o), some (IV s), some (IV c), some (IV 1), some (IV x_90), some (IV k2), none] [] := by
                                  intro fu
                                  induction fu with
                                  | zero => intro j k2 u hm; exact absurd hm (Nat.not_lt_zero _)
                                  | succ fu ih_237 =>
                                    intro j k2 u hm hj hk2 hu hBu g42 g19 g14 g0
                                    refine j_iload (pc := 237) dX2_count_237 rfl ?_
                                    refine j_iload (pc := 239) dX2_count_239 rfl ?_
                                    refine j_icmp_ge (pc := 241) (tgt := 278) dX2_count_241 (by decide) (by omega) (by omega) (fun c_241 => ?_) (fun c_241 => ?_)
                                    · have hj9 : j = (σ.2 31 s.toNat).toNat := by omega
                                      rw [hj9] at hu
                                      have hx : x_90 = sCa (σ0 σ) s := ex_90
                                      have k1 : sC1 (σ0 σ) s c = (sCz (setA (setI σ 43 0) 30 x_90.toNat c) x_90 6) := by unfold sC1; rw [← hx]
                                      have k2 : t = sC2 (σ0 σ) s c := by unfold sC2; rw [← hx, sC1_2 _ s c (by decide) (by decide), k1]; exact ht
                                      have k3 : sC3 (σ0 σ) s c = setA t 31 s.toNat (t.2 31 s.toNat + 1) := by unfold sC3; rw [← k2]
                                      have k4 : u = sC4 (σ0 σ) s c := by unfold sC4; rw [k3, ← hx]; exact hu
                                      have k5 : sC5 (σ0 σ) s c = sNote u (u.1 0) 99 s := by unfold sC5; rw [← k4]
                                      refine j_aload_n (pc := 278) dX2_count_278 rfl ?_
                                      refine j_aload_n (pc := 279) dX2_count_279 rfl ?_
                                      refine m_getI (pc := 280) (v := u.1 0) fa_X2_149_X2 (by decide) rfl rfl dX2_count_280 ?_
                                      have n_7 : 0 ≤ u.1 0 ∧ u.1 0 ≤ 2100 := hBu.1 0
                                      refine j_bipush (pc := 283) (a := 99) dX2_count_283 (by decide) ?_
                                      refine j_iload_n (pc := 285) dX2_count_285 rfl ?_
                                      refine j_callV (pc := 286) (m_notes u (u.1 0) 99 s (show 0 ≤ u.1 42 ∧ u.1 42 < 1000 by omega)) (lw_V q1602 q1604 qs30 q48 q1605) rfl md_yX2_notes (RC.ofM _ rfl) (by decide) (by decide) rfl (Nat.le_of_ble_eq_true rfl) dX2_count_286 (qV.k (fun s_286 q_286 => ?_))
                                      obtain rfl := q_286
                                      refine j_iconst (pc := 289) dX2_count_289 rfl ?_
                                      refine j_istore (pc := 290) dX2_count_290 (by decide) (lo' := [some (.ref o), some (IV s), some (IV c), some (IV 1), some (IV x_90), some (IV 1), none]) rfl ?_
                                      refine j_iconst (pc := 292) dX2_count_292 rfl ?_
                                      refine j_istore (pc := 293) dX2_count_293 (by decide) (lo' := [some (.ref o), some (IV s), some (IV c), some (IV 1), some (IV x_90), some (IV 1), some (IV 0)]) rfl ?_
                                      have hl_295 : ∀ (fu : Nat) (k : Nat) (z : Int), 5 - k < fu → (k : Int) ≤ σ.1 19 → z = sAll (sNote u (u.1 0) 99 s) k → J Γ (AM o ad) (RepM Γ o ad) l RX2 "count" cX2_count 7 (some .boolean) [] 4 0 0 QP X0 0 0 (sNote u (u.1 0) 99 s) 295 [some (.ref o), some (IV s), some (IV c), some (IV 1), some (IV x_90), some (IV z), some (IV (k : Int))] [] := by
                                        intro fu
                                        induction fu with
                                        | zero => intro k z hm; exact absurd hm (Nat.not_lt_zero _)
                                        | succ fu ih_295 =>
                                          intro k z hm hk hz
                                          have hr := sAll_01 (sNote u (u.1 0) 99 s) k
                                          refine j_iload (pc := 295) dX2_count_295 rfl ?_
                                          refine j_aload_n (pc := 297) dX2_count_297 rfl ?_
                                          refine m_getI (pc := 298) (v := u.1 19) fa_X2_178_X2 (by decide) rfl rfl dX2_count_298 ?_
                                          have n_8 : 0 ≤ u.1 19 ∧ u.1 19 ≤ 5 := hBu.1 19
                                          refine j_icmp_ge (pc := 301) (tgt := 333) dX2_count_301 (by decide) (by omega) (by omega) (fun c_301 => ?_) (fun c_301 => ?_)
                                          · have hk8 : k = (u.1 19).toNat := by omega
                                            rw [hk8] at hz hr
                                            have k6 : sCount (σ0 σ) s c = setI (sNote u (u.1 0) 99 s) 14 (if sAll (sNote u (u.1 0) 99 s) (u.1 19).toNat = 1 then 5 else u.1 14) := by unfold sCount; rw [k5]; rfl
                                            have k7 : (sCount (σ0 σ) s c).2 32 = u.2 32 := by rw [k6]; rfl
                                            refine j_aload_n (pc := 333) dX2_count_333 rfl ?_
                                            refine j_iload (pc := 334) dX2_count_334 rfl ?_
                                            refine j_if_eq (pc := 336) (tgt := 343) dX2_count_336 (by decide) (by omega) (fun c_336 => ?_) (fun c_336 => ?_)
                                            · refine j_aload_n (pc := 343) dX2_count_343 rfl ?_
                                              refine m_getI (pc := 344) (v := u.1 14) fa_X2_41_X2 (by decide) rfl rfl dX2_count_344 ?_
                                              have n_9 : 0 ≤ u.1 14 ∧ u.1 14 ≤ 5 := hBu.1 14
                                              refine m_putI (pc := 347) fp_X2_41_X2 (by decide) rfl dX2_count_347 ?_
                                              refine j_aload_n (pc := 350) dX2_count_350 rfl ?_
                                              refine m_getA (pc := 351) fa_X2_81_X2 (by decide) (by decide) dX2_count_351 ?_
                                              refine j_iload_n (pc := 354) dX2_count_354 rfl ?_
                                              refine m_ld (pc := 355) (v := u.2 32 (s).toNat) (by decide) (by decide) rfl (by show 0 ≤ s ∧ s < ((5 : Nat) : Int); omega) rfl dX2_count_355 ?_
                                              have n_10 : (-1) ≤ u.2 32 (s).toNat ∧ u.2 32 (s).toNat ≤ 39 := hBu.2 32 ((s).toNat)
                                              refine j_iconst (pc := 356) dX2_count_356 rfl ?_
                                              refine j_icmp_eq (pc := 357) (tgt := 364) dX2_count_357 (by decide) (by omega) (by decide) (fun c_357 => ?_) (fun c_357 => ?_)
                                              · refine j_iconst (pc := 364) dX2_count_364 rfl ?_
                                                refine j_zret (pc := 365) rfl (Or.inl rfl) (hQ _ _ ?_) dX2_count_365
                                                exact Or.inl ⟨by unfold t2; (repeat' split) <;> omega, by rw [k7]; unfold bI; split <;> omega, by rw [k6]; congr 1; split <;> first | rfl | omega⟩
                                              · refine j_iconst (pc := 360) dX2_count_360 rfl ?_
                                                refine j_goto (pc := 361) (tgt := 365) dX2_count_361 (by decide) ?_
                                                refine j_zret (pc := 365) rfl (Or.inr rfl) (hQ _ _ ?_) dX2_count_365
                                                exact Or.inl ⟨by unfold t2; (repeat' split) <;> omega, by rw [k7]; unfold bI; split <;> omega, by rw [k6]; congr 1; split <;> first | rfl | omega⟩
                                            · refine j_iconst (pc := 339) dX2_count_339 rfl ?_
                                              refine j_goto (pc := 340) (tgt := 347) dX2_count_340 (by decide) ?_
                                              refine m_putI (pc := 347) fp_X2_41_X2 (by decide) rfl dX2_count_347 ?_
                                              refine j_aload_n (pc := 350) dX2_count_350 rfl ?_
                                              refine m_getA (pc := 351) fa_X2_81_X2 (by decide) (by decide) dX2_count_351 ?_
                                              refine j_iload_n (pc := 354) dX2_count_354 rfl ?_
                                              refine m_ld (pc := 355) (v := u.2 32 (s).toNat) (by decide) (by decide) rfl (by show 0 ≤ s ∧ s < ((5 : Nat) : Int); omega) rfl dX2_count_355 ?_
                                              have n_11 : (-1) ≤ u.2 32 (s).toNat ∧ u.2 32 (s).toNat ≤ 39 := hBu.2 32 ((s).toNat)
                                              refine j_iconst (pc := 356) dX2_count_356 rfl ?_
                                              refine j_icmp_eq (pc := 357) (tgt := 364) dX2_count_357 (by decide) (by omega) (by decide) (fun c_357_1 => ?_) (fun c_357_1 => ?_)
                                              · refine j_iconst (pc := 364) dX2_count_364 rfl ?_
                                                refine j_zret (pc := 365) rfl (Or.inl rfl) (hQ _ _ ?_) dX2_count_365
                                                exact Or.inl ⟨by unfold t2; (repeat' split) <;> omega, by rw [k7]; unfold bI; split <;> omega, by rw [k6]; congr 1; split <;> first | rfl | omega⟩
                                              · refine j_iconst (pc := 360) dX2_count_360 rfl ?_
                                                refine j_goto (pc := 361) (tgt := 365) dX2_count_361 (by decide) ?_
                                                refine j_zret (pc := 365) rfl (Or.inr rfl) (hQ _ _ ?_) dX2_count_365
                                                exact Or.inl ⟨by unfold t2; (repeat' split) <;> omega, by rw [k7]; unfold bI; split <;> omega, by rw [k6]; congr 1; split <;> first | rfl | omega⟩
                                          · refine j_iload (pc := 304) dX2_count_304 rfl ?_
                                            refine j_if_eq (pc := 306) (tgt := 324) dX2_count_306 (by decide) (by omega) (fun c_306 => ?_) (fun c_306 => ?_)
                                            · refine j_iconst (pc := 324) dX2_count_324 rfl ?_
                                              refine j_istore (pc := 325) dX2_count_325 (by decide) (lo' := [some (.ref o), some (IV s), some (IV c), some (IV 1), some (IV x_90), some (IV 0), some (IV (k : Int))]) rfl ?_
                                              refine j_iinc (pc := 327) dX2_count_327 rfl (by decide) (lo' := [some (.ref o), some (IV s), some (IV c), some (IV 1), some (IV x_90), some (IV 0), some (IV ((k : Int) + 1))]) rfl ?_
                                              refine j_goto (pc := 330) (tgt := 295) dX2_count_330 (by decide) ?_
                                              exact ih_295 (k + 1) 0 (by omega) (by omega) (by show _ = if sAll (sNote u (u.1 0) 99 s) k = 1 ∧ u.2 32 k ≠ -1 then 1 else 0; rw [← hz]; split <;> omega)
                                            · refine j_aload_n (pc := 309) dX2_count_309 rfl ?_
                                              refine m_getA (pc := 310) fa_X2_81_X2 (by decide) (by decide) dX2_count_310 ?_
                                              refine j_iload (pc := 313) dX2_count_313 rfl ?_
                                              refine m_ld (pc := 315) (v := u.2 32 k) (by decide) (by decide) rfl (by show 0 ≤ (k : Int) ∧ (k : Int) < ((5 : Nat) : Int); omega) rfl dX2_count_315 ?_
                                              have n_12 : (-1) ≤ u.2 32 k ∧ u.2 32 k ≤ 39 := hBu.2 32 k
                                              refine j_iconst (pc := 316) dX2_count_316 rfl ?_
                                              refine j_icmp_eq (pc := 317) (tgt := 324) dX2_count_317 (by decide) (by omega) (by decide) (fun c_317 => ?_) (fun c_317 => ?_)
                                              · refine j_iconst (pc := 324) dX2_count_324 rfl ?_
                                                refine j_istore (pc := 325) dX2_count_325 (by decide) (lo' := [some (.ref o), some (IV s), some (IV c), some (IV 1), some (IV x_90), some (IV 0), some (IV (k : Int))]) rfl ?_
                                                refine j_iinc (pc := 327) dX2_count_327 rfl (by decide) (lo' := [some (.ref o), some (IV s), some (IV c), some (IV 1), some (IV x_90), some (IV 0), some (IV ((k : Int) + 1))]) rfl ?_
                                                refine j_goto (pc := 330) (tgt := 295) dX2_count_330 (by decide) ?_
                                                exact ih_295 (k + 1) 0 (by omega) (by omega) (by show _ = if sAll (sNote u (u.1 0) 99 s) k = 1 ∧ u.2 32 k ≠ -1 then 1 else 0; rw [← hz]; split <;> omega)
                                              · refine j_iconst (pc := 320) dX2_count_320 rfl ?_
                                                refine j_goto (pc := 321) (tgt := 325) dX2_count_321 (by decide) ?_
                                                refine j_istore (pc := 325) dX2_count_325 (by decide) (lo' := [some (.ref o), some (IV s), some (IV c), some (IV 1), some (IV x_90), some (IV 1), some (IV (k : Int))]) rfl ?_
                                                refine j_iinc (pc := 327) dX2_count_327 rfl (by decide) (lo' := [some (.ref o), some (IV s), some (IV c), some (IV 1), some (IV x_90), some (IV 1), some (IV ((k : Int) + 1))]) rfl ?_
                                                refine j_goto (pc := 330) (tgt := 295) dX2_count_330 (by decide) ?_
                                                exact ih_295 (k + 1) 1 (by omega) (by omega) (by show _ = if sAll (sNote u (u.1 0) 99 s) k = 1 ∧ u.2 32 k ≠ -1 then 1 else 0; rw [← hz]; split <;> omega)
                                      exact hl_295 _ 0 1 (Nat.lt_succ_self _) (by omega) rfl
                                    · refine j_aload_n (pc := 244) dX2_count_244 rfl ?_
                                      refine m_getA (pc := 245) fa_X2_81_X2 (by decide) (by decide) dX2_count_245 ?_
                                      refine j_iload_n (pc := 248) dX2_count_248 rfl ?_
                                      refine j_aload_n (pc := 249) dX2_count_249 rfl ?_
                                      refine j_iload (pc := 250) dX2_count_250 rfl ?_
                                      refine j_iload (pc := 252) dX2_count_252 rfl ?_
                                      refine j_callV (pc := 254) (m_areAlike u k2 x_90 (by omega) (by omega) hBu) (lw_V q1702 q1704 qs37 q48 q1705) rfl md_yX2_areAlike (RC.ofM _ rfl) (by decide) (by decide) rfl (Nat.le_of_ble_eq_true rfl) dX2_count_254 (qI.k (fun r_254 s_254 q_254 => ?_))
                                      obtain ⟨e1q_254, e2q_254⟩ := q_254
                                      subst r_254
                                      subst s_254
                                      have ra_254 := sAl_01 u k2 x_90 6
                                      refine j_if_eq (pc := 257) (tgt := 265) dX2_count_257 (by decide) (by omega) (fun c_257 => ?_) (fun c_257 => ?_)
                                      · refine j_aload_n (pc := 265) dX2_count_265 rfl ?_
                                        refine m_getA (pc := 266) fa_X2_81_X2 (by decide) (by decide) dX2_count_266 ?_
                                        refine j_iload_n (pc := 269) dX2_count_269 rfl ?_
                                        refine m_ld (pc := 270) (v := u.2 32 (s).toNat) (by decide) (by decide) rfl (by show 0 ≤ s ∧ s < ((5 : Nat) : Int); omega) rfl dX2_count_270 ?_
                                        have n_13 : (-1) ≤ u.2 32 (s).toNat ∧ u.2 32 (s).toNat ≤ 39 := hBu.2 32 ((s).toNat)
                                        refine m_st (pc := 271) (by decide) (by decide) rfl (by show 0 ≤ s ∧ s < ((5 : Nat) : Int); omega) dX2_count_271 ?_
                                        refine j_iinc (pc := 272) dX2_count_272 rfl (by decide) (lo' := [some (.ref o), some (IV s), some (IV c), some (IV 1), some (IV x_90), some (IV (k2 + 1)), none]) rfl ?_
                                        refine j_goto (pc := 275) (tgt := 237) dX2_count_275 (by decide) ?_
                                        exact ih_237 (j + 1) (k2 + 1) (setA u 32 (s).toNat (u.2 32 (s).toNat)) (by omega) (by omega) (by omega) (by show _ = setA (sSt (setA t 31 s.toNat (t.2 31 s.toNat + 1)) s x_90 j) 32 s.toNat (if sAl (sSt (setA t 31 s.toNat (t.2 31 s.toNat + 1)) s x_90 j) (8 * s + j) x_90 6 = 1 then x_90 else (sSt (setA t 31 s.toNat (t.2 31 s.toNat + 1)) s x_90 j).2 32 s.toNat); rw [← hu, ← hk2, if_neg (by omega)]) (Bd.a hBu (by show ((-1) : Int) ≤ u.2 32 (s).toNat ∧ u.2 32 (s).toNat ≤ (39 : Int); omega)) g42 g19 g14 g0
                                      · refine j_iload (pc := 260) dX2_count_260 rfl ?_
                                        refine j_goto (pc := 262) (tgt := 271) dX2_count_262 (by decide) ?_
                                        refine m_st (pc := 271) (by decide) (by decide) rfl (by show 0 ≤ s ∧ s < ((5 : Nat) : Int); omega) dX2_count_271 ?_
                                        refine j_iinc (pc := 272) dX2_count_272 rfl (by decide) (lo' := [some (.ref o), some (IV s), some (IV c), some (IV 1), some (IV x_90), some (IV (k2 + 1)), none]) rfl ?_
                                        refine j_goto (pc := 275) (tgt := 237) dX2_count_275 (by decide) ?_
                                        exact ih_237 (j + 1) (k2 + 1) (setA u 32 (s).toNat x_90) (by omega) (by omega) (by omega) (by show _ = setA (sSt (setA t 31 s.toNat (t.2 31 s.toNat + 1)) s x_90 j) 32 s.toNat (if sAl (sSt (setA t 31 s.toNat (t.2 31 s.toNat + 1)) s x_90 j) (8 * s + j) x_90 6 = 1 then x_90 else (sSt (setA t 31 s.toNat (t.2 31 s.toNat + 1)) s x_90 j).2 32 s.toNat); rw [← hu, ← hk2, if_pos (by omega)]) (Bd.a hBu (by show ((-1) : Int) ≤ x_90 ∧ x_90 ≤ (39 : Int); omega)) g42 g19 g14 g0
                                exact hl_237 _ 0 (8 * s) (setA t 31 (s).toNat ((t.2 31 (s).toNat) + 1)) (Nat.lt_succ_self _) (by omega) (by omega) rfl (Bd.a hBt (by show (0 : Int) ≤ (t.2 31 (s).toNat) + 1 ∧ (t.2 31 (s).toNat) + 1 ≤ (8 : Int); omega)) (gt 42) (gt 19) (gt 14) (gt 0)
                              · refine j_aload_n (pc := 144) dX2_count_144 rfl ?_
                                refine m_getA (pc := 145) fa_X2_84_X2 (by decide) (by decide) dX2_count_145 ?_
                                refine j_iload_n (pc := 148) dX2_count_148 rfl ?_
                                refine m_ld (pc := 149) (v := t.2 33 (c).toNat) (by decide) (by decide) rfl (by show 0 ≤ c ∧ c < ((4 : Nat) : Int); omega) rfl dX2_count_149 ?_
                                have n_14 : 0 ≤ t.2 33 (c).toNat ∧ t.2 33 (c).toNat ≤ 20 := hBt.2 33 ((c).toNat)
                                refine j_if_le (pc := 150) (tgt := 171) dX2_count_150 (by decide) (by omega) (fun c_150 => ?_) (fun c_150 => ?_)
                                · refine j_iconst (pc := 171) dX2_count_171 rfl ?_
                                  refine j_istore (pc := 172) dX2_count_172 (by decide) (lo' := [some (.ref o), some (IV s), some (IV c), some (IV 1), some (IV x_90), some (IV (k : Int)), some (IV 0)]) rfl ?_
                                  refine j_aload_n (pc := 174) dX2_count_174 rfl ?_
                                  refine m_getA (pc := 175) fa_X2_72_X2 (by decide) (by decide) dX2_count_175 ?_
                                  refine j_bipush (pc := 178) (a := 6) dX2_count_178 (by decide) ?_
                                  refine j_iload (pc := 180) dX2_count_180 rfl ?_
                                  refine j_imul (pc := 182) dX2_count_182 ?_
                                  refine j_aload_n (pc := 183) dX2_count_183 rfl ?_
                                  refine m_getA (pc := 184) fa_X2_66_X2 (by decide) (by decide) dX2_count_184 ?_
                                  refine j_bipush (pc := 187) (a := 20) dX2_count_187 (by decide) ?_
                                  refine j_iload_n (pc := 189) dX2_count_189 rfl ?_
                                  refine j_imul (pc := 190) dX2_count_190 ?_
                                  refine j_iload (pc := 191) dX2_count_191 rfl ?_
                                  refine j_iadd (pc := 193) dX2_count_193 ?_
                                  refine m_ld (pc := 194) (v := t.2 27 ((20 * s) + (k : Int)).toNat) (by decide) (by decide) rfl (by show 0 ≤ (20 * s) + (k : Int) ∧ (20 * s) + (k : Int) < ((100 : Nat) : Int); omega) rfl dX2_count_194 ?_
                                  have n_15 : 0 ≤ t.2 27 ((20 * s) + (k : Int)).toNat ∧ t.2 27 ((20 * s) + (k : Int)).toNat ≤ 5 := hBt.2 27 (((20 * s) + (k : Int)).toNat)
                                  refine j_iload (pc := 195) dX2_count_195 rfl ?_
                                  refine j_if_eq (pc := 197) (tgt := 204) dX2_count_197 (by decide) (by decide) (fun c_197 => ?_) (fun c_197 => ?_)
                                  · refine j_iconst (pc := 204) dX2_count_204 rfl ?_
                                    refine j_iadd (pc := 205) dX2_count_205 ?_
                                    refine j_bipush (pc := 206) (a := 6) dX2_count_206 (by decide) ?_
                                    refine j_irem (pc := 208) dX2_count_208 (by omega) (by omega) ?_
                                    refine j_iadd (pc := 209) dX2_count_209 ?_
                                    refine j_dup2 (pc := 210) dX2_count_210 rfl rfl ?_
                                    refine m_ld (pc := 211) (v := t.2 29 ((6 * x_90) + (((t.2 27 ((20 * s) + (k : Int)).toNat) + 0) % 6)).toNat) (by decide) (by decide) rfl (by show 0 ≤ (6 * x_90) + (((t.2 27 ((20 * s) + (k : Int)).toNat) + 0) % 6) ∧ (6 * x_90) + (((t.2 27 ((20 * s) + (k : Int)).toNat) + 0) % 6) < ((240 : Nat) : Int); omega) rfl dX2_count_211 ?_
                                    have n_16 : 0 ≤ t.2 29 ((6 * x_90) + (((t.2 27 ((20 * s) + (k : Int)).toNat) + 0) % 6)).toNat ∧ t.2 29 ((6 * x_90) + (((t.2 27 ((20 * s) + (k : Int)).toNat) + 0) % 6)).toNat ≤ 20 := hBt.2 29 (((6 * x_90) + (((t.2 27 ((20 * s) + (k : Int)).toNat) + 0) % 6)).toNat)
                                    refine j_iconst (pc := 212) dX2_count_212 rfl ?_
                                    refine j_iadd (pc := 213) dX2_count_213 ?_
                                    refine m_st (pc := 214) (by decide) (by decide) rfl (by show 0 ≤ (6 * x_90) + (((t.2 27 ((20 * s) + (k : Int)).toNat) + 0) % 6) ∧ (6 * x_90) + (((t.2 27 ((20 * s) + (k : Int)).toNat) + 0) % 6) < ((240 : Nat) : Int); omega) dX2_count_214 ?_
                                    refine j_iinc (pc := 215) dX2_count_215 rfl (by decide) (lo' := [some (.ref o), some (IV s), some (IV c), some (IV 1), some (IV x_90), some (IV ((k : Int) + 1)), some (IV 0)]) rfl ?_
                                    refine j_goto (pc := 218) (tgt := 133) dX2_count_218 (by decide) ?_
                                    refine j_sub (lo' := [some (.ref o), some (IV s), some (IV c), some (IV 1), some (IV x_90), some (IV ((k : Int) + 1)), none]) ⟨Or.inr rfl, Or.inr rfl, Or.inr rfl, Or.inr rfl, Or.inr rfl, Or.inr rfl, Or.inl rfl, trivial⟩ ?_
                                    exact ih_133 (k + 1) (setA t 29 ((6 * x_90) + (((t.2 27 ((20 * s) + (k : Int)).toNat) + 0) % 6)).toNat ((t.2 29 ((6 * x_90) + (((t.2 27 ((20 * s) + (k : Int)).toNat) + 0) % 6)).toNat) + 1)) (by omega) (by omega) (by show _ = setA (sCt (sCz (setA (setI σ 43 0) 30 x_90.toNat c) x_90 6) s c x_90 k) 29 (sCi (sCt (sCz (setA (setI σ 43 0) 30 x_90.toNat c) x_90 6) s c x_90 k) s c x_90 k).toNat _; rw [← ht]; have ei : (sCi t s c x_90 k).toNat = ((6 * x_90) + (((t.2 27 ((20 * s) + (k : Int)).toNat) + 0) % 6)).toNat := (by unfold sCi; split <;> omega); rw [ei]) (by have h9 := hCB.step (by omega) (by omega) s c; have ei : (sCi t s c x_90 k).toNat = ((6 * x_90) + (((t.2 27 ((20 * s) + (k : Int)).toNat) + 0) % 6)).toNat := (by unfold sCi; split <;> omega); rw [ei] at h9; exact h9) h28 h33 h31
                                  · exact absurd c_197 (by decide)
                                · refine j_iload (pc := 153) dX2_count_153 rfl ?_
                                  refine j_iconst (pc := 155) dX2_count_155 rfl ?_
                                  refine j_iadd (pc := 156) dX2_count_156 ?_
                                  refine j_aload_n (pc := 157) dX2_count_157 rfl ?_
                                  refine m_getA (pc := 158) fa_X2_84_X2 (by decide) (by decide) dX2_count_158 ?_
                                  refine j_iload_n (pc := 161) dX2_count_161 rfl ?_
                                  refine m_ld (pc := 162) (v := t.2 33 (c).toNat) (by decide) (by decide) rfl (by show 0 ≤ c ∧ c < ((4 : Nat) : Int); omega) rfl dX2_count_162 ?_
                                  refine j_irem (pc := 163) dX2_count_163 (by omega) (by omega) ?_
                                  have em1 := Int.emod_nonneg ((k : Int) + 1) (b := t.2 33 c.toNat) (by omega)
                                  have em2 := Int.emod_lt_of_pos ((k : Int) + 1) (b := t.2 33 c.toNat) (by omega)
                                  refine j_if_ne (pc := 164) (tgt := 171) dX2_count_164 (by decide) (by omega) (fun c_164 => ?_) (fun c_164 => ?_)
                                  · refine j_iconst (pc := 171) dX2_count_171 rfl ?_
                                    refine j_istore (pc := 172) dX2_count_172 (by decide) (lo' := [some (.ref o), some (IV s), some (IV c), some (IV 1), some (IV x_90), some (IV (k : Int)), some (IV 0)]) rfl ?_
                                    refine j_aload_n (pc := 174) dX2_count_174 rfl ?_
                                    refine m_getA (pc := 175) fa_X2_72_X2 (by decide) (by decide) dX2_count_175 ?_
                                    refine j_bipush (pc := 178) (a := 6) dX2_count_178 (by decide) ?_
                                    refine j_iload (pc := 180) dX2_count_180 rfl ?_
                                    refine j_imul (pc := 182) dX2_count_182 ?_
                                    refine j_aload_n (pc := 183) dX2_count_183 rfl ?_
                                    refine m_getA (pc := 184) fa_X2_66_X2 (by decide) (by decide) dX2_count_184 ?_
                                    refine j_bipush (pc := 187) (a := 20) dX2_count_187 (by decide) ?_
                                    refine j_iload_n (pc := 189) dX2_count_189 rfl ?_
                                    refine j_imul (pc := 190) dX2_count_190 ?_
                                    refine j_iload (pc := 191) dX2_count_191 rfl ?_
                                    refine j_iadd (pc := 193) dX2_count_193 ?_
                                    refine m_ld (pc := 194) (v := t.2 27 ((20 * s) + (k : Int)).toNat) (by decide) (by decide) rfl (by show 0 ≤ (20 * s) + (k : Int) ∧ (20 * s) + (k : Int) < ((100 : Nat) : Int); omega) rfl dX2_count_194 ?_
                                    have n_17 : 0 ≤ t.2 27 ((20 * s) + (k : Int)).toNat ∧ t.2 27 ((20 * s) + (k : Int)).toNat ≤ 5 := hBt.2 27 (((20 * s) + (k : Int)).toNat)
                                    refine j_iload (pc := 195) dX2_count_195 rfl ?_
                                    refine j_if_eq (pc := 197) (tgt := 204) dX2_count_197 (by decide) (by decide) (fun c_197_1 => ?_) (fun c_197_1 => ?_)
                                    · refine j_iconst (pc := 204) dX2_count_204 rfl ?_
                                      refine j_iadd (pc := 205) dX2_count_205 ?_
                                      refine j_bipush (pc := 206) (a := 6) dX2_count_206 (by decide) ?_
                                      refine j_irem (pc := 208) dX2_count_208 (by omega) (by omega) ?_
                                      refine j_iadd (pc := 209) dX2_count_209 ?_
                                      refine j_dup2 (pc := 210) dX2_count_210 rfl rfl ?_
                                      refine m_ld (pc := 211) (v := t.2 29 ((6 * x_90) + (((t.2 27 ((20 * s) + (k : Int)).toNat) + 0) % 6)).toNat) (by decide) (by decide) rfl (by show 0 ≤ (6 * x_90) + (((t.2 27 ((20 * s) + (k : Int)).toNat) + 0) % 6) ∧ (6 * x_90) + (((t.2 27 ((20 * s) + (k : Int)).toNat) + 0) % 6) < ((240 : Nat) : Int); omega) rfl dX2_count_211 ?_
                                      have n_18 : 0 ≤ t.2 29 ((6 * x_90) + (((t.2 27 ((20 * s) + (k : Int)).toNat) + 0) % 6)).toNat ∧ t.2 29 ((6 * x_90) + (((t.2 27 ((20 * s) + (k : Int)).toNat) + 0) % 6)).toNat ≤ 20 := hBt.2 29 (((6 * x_90) + (((t.2 27 ((20 * s) + (k : Int)).toNat) + 0) % 6)).toNat)
                                      refine j_iconst (pc := 212) dX2_count_212 rfl ?_
                                      refine j_iadd (pc := 213) dX2_count_213 ?_
                                      refine m_st (pc := 214) (by decide) (by decide) rfl (by show 0 ≤ (6 * x_90) + (((t.2 27 ((20 * s) + (k : Int)).toNat) + 0) % 6) ∧ (6 * x_90) + (((t.2 27 ((20 * s) + (k : Int)).toNat) + 0) % 6) < ((240 : Nat) : Int); omega) dX2_count_214 ?_
                                      refine j_iinc (pc := 215) dX2_count_215 rfl (by decide) (lo' := [some (.ref o), some (IV s), some (IV c), some (IV 1), some (IV x_90), some (IV ((k : Int) + 1)), some (IV 0)]) rfl ?_
                                      refine j_goto (pc := 218) (tgt := 133) dX2_count_218 (by decide) ?_
                                      refine j_sub (lo' := [some (.ref o), some (IV s), some (IV c), some (IV 1), some (IV x_90), some (IV ((k : Int) + 1)), none]) ⟨Or.inr rfl, Or.inr rfl, Or.inr rfl, Or.inr rfl, Or.inr rfl, Or.inr rfl, Or.inl rfl, trivial⟩ ?_
                                      exact ih_133 (k + 1) (setA t 29 ((6 * x_90) + (((t.2 27 ((20 * s) + (k : Int)).toNat) + 0) % 6)).toNat ((t.2 29 ((6 * x_90) + (((t.2 27 ((20 * s) + (k : Int)).toNat) + 0) % 6)).toNat) + 1)) (by omega) (by omega) (by show _ = setA (sCt (sCz (setA (setI σ 43 0) 30 x_90.toNat c) x_90 6) s c x_90 k) 29 (sCi (sCt (sCz (setA (setI σ 43 0) 30 x_90.toNat c) x_90 6) s c x_90 k) s c x_90 k).toNat _; rw [← ht]; have ei : (sCi t s c x_90 k).toNat = ((6 * x_90) + (((t.2 27 ((20 * s) + (k : Int)).toNat) + 0) % 6)).toNat := (by unfold sCi; split <;> omega); rw [ei]) (by have h9 := hCB.step (by omega) (by omega) s c; have ei : (sCi t s c x_90 k).toNat = ((6 * x_90) + (((t.2 27 ((20 * s) + (k : Int)).toNat) + 0) % 6)).toNat := (by unfold sCi; split <;> omega); rw [ei] at h9; exact h9) h28 h33 h31
                                    · exact absurd c_197_1 (by decide)
                                  · refine j_iconst (pc := 167) dX2_count_167 rfl ?_
                                    refine j_goto (pc := 168) (tgt := 172) dX2_count_168 (by decide) ?_
                                    refine j_istore (pc := 172) dX2_count_172 (by decide) (lo' := [some (.ref o), some (IV s), some (IV c), some (IV 1), some (IV x_90), some (IV (k : Int)), some (IV 1)]) rfl ?_
                                    refine j_aload_n (pc := 174) dX2_count_174 rfl ?_
                                    refine m_getA (pc := 175) fa_X2_72_X2 (by decide) (by decide) dX2_count_175 ?_
                                    refine j_bipush (pc := 178) (a := 6) dX2_count_178 (by decide) ?_
                                    refine j_iload (pc := 180) dX2_count_180 rfl ?_
                                    refine j_imul (pc := 182) dX2_count_182 ?_
                                    refine j_aload_n (pc := 183) dX2_count_183 rfl ?_
                                    refine m_getA (pc := 184) fa_X2_66_X2 (by decide) (by decide) dX2_count_184 ?_
                                    refine j_bipush (pc := 187) (a := 20) dX2_count_187 (by decide) ?_
                                    refine j_iload_n (pc := 189) dX2_count_189 rfl ?_
                                    refine j_imul (pc := 190) dX2_count_190 ?_
                                    refine j_iload (pc := 191) dX2_count_191 rfl ?_
                                    refine j_iadd (pc := 193) dX2_count_193 ?_
                                    refine m_ld (pc := 194) (v := t.2 27 ((20 * s) + (k : Int)).toNat) (by decide) (by decide) rfl (by show 0 ≤ (20 * s) + (k : Int) ∧ (20 * s) + (k : Int) < ((100 : Nat) : Int); omega) rfl dX2_count_194 ?_
                                    have n_19 : 0 ≤ t.2 27 ((20 * s) + (k : Int)).toNat ∧ t.2 27 ((20 * s) + (k : Int)).toNat ≤ 5 := hBt.2 27 (((20 * s) + (k : Int)).toNat)
                                    refine j_iload (pc := 195) dX2_count_195 rfl ?_
                                    refine j_if_eq (pc := 197) (tgt := 204) dX2_count_197 (by decide) (by decide) (fun c_197_1 => ?_) (fun c_197_1 => ?_)
                                    · exact absurd c_197_1 (by decide)
                                    · refine j_iconst (pc := 200) dX2_count_200 rfl ?_
                                      refine j_goto (pc := 201) (tgt := 205) dX2_count_201 (by decide) ?_
                                      refine j_iadd (pc := 205) dX2_count_205 ?_
                                      refine j_bipush (pc := 206) (a := 6) dX2_count_206 (by decide) ?_
                                      refine j_irem (pc := 208) dX2_count_208 (by omega) (by omega) ?_
                                      refine j_iadd (pc := 209) dX2_count_209 ?_
                                      refine j_dup2 (pc := 210) dX2_count_210 rfl rfl ?_
                                      refine m_ld (pc := 211) (v := t.2 29 ((6 * x_90) + (((t.2 27 ((20 * s) + (k : Int)).toNat) + 1) % 6)).toNat) (by decide) (by decide) rfl (by show 0 ≤ (6 * x_90) + (((t.2 27 ((20 * s) + (k : Int)).toNat) + 1) % 6) ∧ (6 * x_90) + (((t.2 27 ((20 * s) + (k : Int)).toNat) + 1) % 6) < ((240 : Nat) : Int); omega) rfl dX2_count_211 ?_
                                      have n_20 : 0 ≤ t.2 29 ((6 * x_90) + (((t.2 27 ((20 * s) + (k : Int)).toNat) + 1) % 6)).toNat ∧ t.2 29 ((6 * x_90) + (((t.2 27 ((20 * s) + (k : Int)).toNat) + 1) % 6)).toNat ≤ 20 := hBt.2 29 (((6 * x_90) + (((t.2 27 ((20 * s) + (k : Int)).toNat) + 1) % 6)).toNat)
                                      refine j_iconst (pc := 212) dX2_count_212 rfl ?_
                                      refine j_iadd (pc := 213) dX2_count_213 ?_
                                      refine m_st (pc := 214) (by decide) (by decide) rfl (by show 0 ≤ (6 * x_90) + (((t.2 27 ((20 * s) + (k : Int)).toNat) + 1) % 6) ∧ (6 * x_90) + (((t.2 27 ((20 * s) + (k : Int)).toNat) + 1) % 6) < ((240 : Nat) : Int); omega) dX2_count_214 ?_
                                      refine j_iinc (pc := 215) dX2_count_215 rfl (by decide) (lo' := [some (.ref o), some (IV s), some (IV c), some (IV 1), some (IV x_90), some (IV ((k : Int) + 1)), some (IV 1)]) rfl ?_
                                      refine j_goto (pc := 218) (tgt := 133) dX2_count_218 (by decide) ?_
                                      refine j_sub (lo' := [some (.ref o), some (IV s), some (IV c), some (IV 1), some (IV x_90), some (IV ((k : Int) + 1)), none]) ⟨Or.inr rfl, Or.inr rfl, Or.inr rfl, Or.inr rfl, Or.inr rfl, Or.inr rfl, Or.inl rfl, trivial⟩ ?_
                                      exact ih_133 (k + 1) (setA t 29 ((6 * x_90) + (((t.2 27 ((20 * s) + (k : Int)).toNat) + 1) % 6)).toNat ((t.2 29 ((6 * x_90) + (((t.2 27 ((20 * s) + (k : Int)).toNat) + 1) % 6)).toNat) + 1)) (by omega) (by omega) (by show _ = setA (sCt (sCz (setA (setI σ 43 0) 30 x_90.toNat c) x_90 6) s c x_90 k) 29 (sCi (sCt (sCz (setA (setI σ 43 0) 30 x_90.toNat c) x_90 6) s c x_90 k) s c x_90 k).toNat _; rw [← ht]; have ei : (sCi t s c x_90 k).toNat = ((6 * x_90) + (((t.2 27 ((20 * s) + (k : Int)).toNat) + 1) % 6)).toNat := (by unfold sCi; split <;> omega); rw [ei]) (by have h9 := hCB.step (by omega) (by omega) s c; have ei : (sCi t s c x_90 k).toNat = ((6 * x_90) + (((t.2 27 ((20 * s) + (k : Int)).toNat) + 1) % 6)).toNat := (by unfold sCi; split <;> omega); rw [ei] at h9; exact h9) h28 h33 h31
                          exact hl_133 _ 0 (sCz (setA (setI σ 43 0) 30 x_90.toNat c) x_90 6) (Nat.lt_succ_self _) (by omega) rfl (CB.start ((hB.i (by decide)).a (by show (0 : Int) ≤ c ∧ c ≤ 3; omega)) x_90) ((sCz_fr _ _ 6).2 28 (by decide)) ((sCz_fr _ _ 6).2 33 (by decide)) ((sCz_fr _ _ 6).2 31 (by decide))
                        · refine j_aload_n (pc := 110) dX2_count_110 rfl ?_
                          refine m_getA (pc := 111) fa_X2_72_X2 (by decide) (by decide) dX2_count_111 ?_
                          refine j_bipush (pc := 114) (a := 6) dX2_count_114 (by decide) ?_
                          refine j_iload (pc := 116) dX2_count_116 rfl ?_
                          refine j_imul (pc := 118) dX2_count_118 ?_
                          refine j_iload (pc := 119) dX2_count_119 rfl ?_
                          refine j_iadd (pc := 121) dX2_count_121 ?_
                          refine j_iconst (pc := 122) dX2_count_122 rfl ?_
                          refine m_st (pc := 123) (by decide) (by decide) rfl (by show 0 ≤ (6 * x_90) + (k : Int) ∧ (6 * x_90) + (k : Int) < ((240 : Nat) : Int); omega) dX2_count_123 ?_
                          refine j_iinc (pc := 124) dX2_count_124 rfl (by decide) (lo' := [some (.ref o), some (IV s), some (IV c), some (IV 1), some (IV x_90), some (IV ((k : Int) + 1)), none]) rfl ?_
                          refine j_goto (pc := 127) (tgt := 103) dX2_count_127 (by decide) ?_
                          exact ih_103 (k + 1) (by omega) (by omega)
                    exact hl_103 _ 0 (Nat.lt_succ_self _) (by omega)
                  · exact absurd c_74_1 (by decide)
                · exact absurd (by simp) q_71_1a

