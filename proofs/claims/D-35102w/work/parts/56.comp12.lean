set_option maxRecDepth 100000
theorem none_of {h g : AL2} {bo : Nat} (hold : ∀ a z, h a = some z → a ≠ bo → g a = some z) {a : Nat} (hg : g a = none) (hn : a ≠ bo) : h a = none := by
  cases e : h a with
  | none => rfl
  | some z => rw [hold a z e hn] at hg; cases hg

theorem fa_X10_16_X10 : FA RX10 16 8 1 := ⟨RX10, TX10, 4, "BallotFoundry$Box", rfl, in_X10, by decide, q788, Or.inl rfl⟩
theorem fa_X10_48_X10 : FA RX10 48 8 2 := ⟨RX10, TX10, 4, "BallotFoundry$Box", rfl, in_X10, by decide, q791, Or.inl rfl⟩
theorem md_yX12_agrees : MD yX12_agrees 1 := by decide +kernel
theorem fp_X10_48_X10 : FP RX10 48 8 2 (.object "BallotFoundry$Count") false := ⟨RX10, TX10, 4, "BallotFoundry$Box", tyX10, rfl, in_X10, by decide, q791, Or.inl rfl, tyX10_ok, nmX10, rfl, rfl, fun h => nomatch h⟩
theorem md_yX12_init_2 : MD yX12_init_2 1 := by decide +kernel
set_option maxHeartbeats 4000000 in
theorem c_take {Γ : GG} {A : Nat → Prop} {K : KK} {l : Launch} (h : AL2) (hke : KE Γ A K) (hfe : FE Γ) (hko : KO Γ RX12) (bo b1 b2 : Nat) (pe : Int) (m : Nat) (cn nn : Nat → Nat) (cc : Nat → Int) (ff : Nat → Nat → Int) (q nb : Nat) (c : Int) (f : Nat → Int) (hm : m ≤ 8) (hc : RR c) (hcc : ∀ j, RR (cc j)) (hf : ∀ i, RR (f i)) (hff : ∀ j i, RR (ff j i)) (hbo : h bo = some (pO 8 [.ref b1, .ref b2, .null, IV pe])) (hb2 : h b2 = some (pL (rg ((m : Int)) (fun j => cn j)))) (hcn : ∀ j : Nat, j < m → h (cn j) = some (pO 10 [IV (cc j), .ref (nn j)]) ∧ h (nn j) = some (pA 0 6 (ff j))) (hq : h q = some (pO 10 [IV c, .ref nb])) (hnb : h nb = some (pA 0 6 f)) : Ct Γ A (Rep2 Γ A K) l yX10_take (ws_ yX10_take cX10_take 3 none) 8 3 42 [.ref bo, .ref q] h (qV (fun (h' : AL2) => h' b2 = some (pL (rg ((m : Int)) (fun j => cn j) ++ [q])) ∧ (∀ a z, h a = some z → a ≠ bo → a ≠ b2 → h' a = some z) ∧ (((∀ j : Nat, j < m → agN (cc j) c (ff j) f 6 = 0) ∧ h' bo = some (pO 8 [.ref b1, .ref b2, .null, IV pe])) ∨ ((∃ j : Nat, j < m ∧ agN (cc j) c (ff j) f 6 = 1) ∧ ∃ cq cb, h cq = none ∧ h cb = none ∧ cq ≠ cb ∧ h' cq = some (pO 10 [IV c, .ref cb]) ∧ h' cb = some (pA 0 6 f) ∧ h' bo = some (pO 8 [.ref b1, .ref b2, .ref cq, IV pe]))))) X0 := by
  refine Ct.ofJ (own := RX10) (nm := "take") (lo := [some (.ref bo), some (.ref q), none]) pn_X10 rfl rfl (List.forall_mem_cons.mpr ⟨rfl, (List.forall_mem_cons.mpr ⟨rfl, (fun _ h => nomatch h)⟩)⟩) (Nat.le_of_ble_eq_true rfl) rfl ?_
  have hQ : ∀ (h' : AL2), (h' b2 = some (pL (rg ((m : Int)) (fun j => cn j) ++ [q])) ∧ (∀ a z, h a = some z → a ≠ bo → a ≠ b2 → h' a = some z) ∧ (((∀ j : Nat, j < m → agN (cc j) c (ff j) f 6 = 0) ∧ h' bo = some (pO 8 [.ref b1, .ref b2, .null, IV pe])) ∨ ((∃ j : Nat, j < m ∧ agN (cc j) c (ff j) f 6 = 1) ∧ ∃ cq cb, h cq = none ∧ h cb = none ∧ cq ≠ cb ∧ h' cq = some (pO 10 [IV c, .ref cb]) ∧ h' cb = some (pA 0 6 f) ∧ h' bo = some (pO 8 [.ref b1, .ref b2, .ref cq, IV pe])))) → (qV (fun (h' : AL2) => h' b2 = some (pL (rg ((m : Int)) (fun j => cn j) ++ [q])) ∧ (∀ a z, h a = some z → a ≠ bo → a ≠ b2 → h' a = some z) ∧ (((∀ j : Nat, j < m → agN (cc j) c (ff j) f 6 = 0) ∧ h' bo = some (pO 8 [.ref b1, .ref b2, .null, IV pe])) ∨ ((∃ j : Nat, j < m ∧ agN (cc j) c (ff j) f 6 = 1) ∧ ∃ cq cb, h cq = none ∧ h cb = none ∧ cq ≠ cb ∧ h' cq = some (pO 10 [IV c, .ref cb]) ∧ h' cb = some (pA 0 6 f) ∧ h' bo = some (pO 8 [.ref b1, .ref b2, .ref cq, IV pe]))))) none h' := fun h' h => ⟨rfl, h⟩
  generalize (qV (fun (h' : AL2) => h' b2 = some (pL (rg ((m : Int)) (fun j => cn j) ++ [q])) ∧ (∀ a z, h a = some z → a ≠ bo → a ≠ b2 → h' a = some z) ∧ (((∀ j : Nat, j < m → agN (cc j) c (ff j) f 6 = 0) ∧ h' bo = some (pO 8 [.ref b1, .ref b2, .null, IV pe])) ∨ ((∃ j : Nat, j < m ∧ agN (cc j) c (ff j) f 6 = 1) ∧ ∃ cq cb, h cq = none ∧ h cb = none ∧ cq ≠ cb ∧ h' cq = some (pO 10 [IV c, .ref cb]) ∧ h' cb = some (pA 0 6 f) ∧ h' bo = some (pO 8 [.ref b1, .ref b2, .ref cq, IV pe]))))) = QP at hQ ⊢
  have nb12 : bo ≠ b2 := fun z => by rw [z, hb2] at hbo; cases hbo
  refine j_iconst (pc := 0) dX10_take_0 rfl ?_
  refine j_istore_n (pc := 1) dX10_take_1 (by decide) (lo' := [some (.ref bo), some (.ref q), some (IV 0)]) rfl ?_
  have hl_2 : ∀ (fu : Nat) (k : Nat) (g : AL2) (w : Option Nat) (b9 : Nat) (c9 : Nat), 8 - k < fu → k ≤ m → (w = none → 3 ≤ b9 ∧ 38 ≤ c9) → 1 ≤ b9 ∧ 30 ≤ c9 → g bo = some (pO 8 [.ref b1, .ref b2, va_rf w, IV pe]) → (∀ a z, h a = some z → a ≠ bo → g a = some z) → ((w = none ∧ ∀ j : Nat, j < k → agN (cc j) c (ff j) f 6 = 0) ∨ ∃ cq cb, w = some cq ∧ (∃ j : Nat, j < m ∧ agN (cc j) c (ff j) f 6 = 1) ∧ h cq = none ∧ h cb = none ∧ cq ≠ cb ∧ g cq = some (pO 10 [IV c, .ref cb]) ∧ g cb = some (pA 0 6 f)) → J Γ A (Rep2 Γ A K) l RX10 "take" cX10_take 3 none [] 8 3 42 QP X0 b9 c9 g 2 [some (.ref bo), some (.ref q), some (IV (k : Int))] [] := by
    intro fu
    induction fu with
    | zero => intro k g w b9 c9 hm; exact absurd hm (Nat.not_lt_zero _)
    | succ fu ih_2 =>
      intro k g w b9 c9 hm hk hb9 hc9 hbo9 hold hw
      have hcc9 := hcc k
      have hff9 := hff k
      refine j_iload_n (pc := 2) dX10_take_2 rfl ?_
      refine j_aload_n (pc := 3) dX10_take_3 rfl ?_
      refine j2_get fa_X10_16_X10 hbo9 rfl dX10_take_4 ?_
      refine j_callF (pc := 7) (xm := ⟨"java/util/List", "size", "()I"⟩) (l2_size (hold _ _ hb2 (Ne.symm nb12))) (lw_F q222 q159 q161 q47 q163) hfe.1 (ci := 2) rfl rfl mdx_yJ2_size (RC.ofL (hold _ _ hb2 (Ne.symm nb12))) (by decide) (by decide) rfl (Nat.le_of_ble_eq_true rfl) dX10_take_7 (qI.k (fun r_7 s_7 q_7 => ?_))
      obtain ⟨e1q_7, e2q_7⟩ := q_7
      subst s_7
      rw [rg_len (by omega)] at e1q_7
      subst r_7
      refine j_icmp_ge (pc := 12) (tgt := 64) dX10_take_12 (by decide) (by omega) (by omega) (fun c_12 => ?_) (fun c_12 => ?_)
      · have hkm : m ≤ k := by omega
        refine j_aload_n (pc := 64) dX10_take_64 rfl ?_
        refine j2_get fa_X10_16_X10 hbo9 rfl dX10_take_65 ?_
        refine j_aload_n (pc := 68) dX10_take_68 rfl ?_
        refine j_room (cl' := (b9 - 1) + 1) (sl' := (c9 - 30) + 30) (by omega) (by omega) ?_
        refine j_callF (pc := 69) (xm := ⟨"java/util/List", "add", "(Ljava/lang/Object;)Z"⟩) (l2_add hke (hold _ _ hb2 (Ne.symm nb12)) hko (Or.inl ⟨10, _, (hold _ _ hq (fun z => by have h9 := hq; rw [z, hbo] at h9; cases h9)), by decide, rfl⟩) (fun z hz9 => by obtain ⟨i9, h9, rfl⟩ := mem_rg hz9; exact Or.inl ⟨10, _, hold _ _ (hcn i9 (by omega)).1 (fun z => by have h9 := (hcn i9 (by omega)).1; rw [z, hbo] at h9; cases h9), by decide, rfl⟩) (by have h9 := rg_len (n := (m : Int)) (by omega) (fun j => cn j); omega) 30 (by have h9 := rg_len (n := (m : Int)) (by omega) (fun j => cn j); omega)) (lw_F q1021 q480 q482 q47 q484) hfe.2.2.2.1 (ci := 2) rfl rfl mdx_yJ2_add (RC.ofL (hold _ _ hb2 (Ne.symm nb12))) (by decide) (by decide) rfl (Nat.le_of_ble_eq_true rfl) dX10_take_69 (qI.k (fun r_69 s_69 q_69 => ?_))
        obtain ⟨e1q_69, e2q_69⟩ := q_69
        subst r_69
        refine j_pop (pc := 74) dX10_take_74 rfl ?_
        refine j_vret (pc := 75) rfl (hQ _ ?_) dX10_take_75
        have hfin : (w = none ∧ ∀ j : Nat, j < m → agN (cc j) c (ff j) f 6 = 0) ∨ ∃ cq cb, w = some cq ∧ (∃ j : Nat, j < m ∧ agN (cc j) c (ff j) f 6 = 1) ∧ h cq = none ∧ h cb = none ∧ cq ≠ cb ∧ g cq = some (pO 10 [IV c, .ref cb]) ∧ g cb = some (pA 0 6 f) := by rcases hw with ⟨g1, g2⟩ | g1; exact Or.inl ⟨g1, fun j hj => g2 j (by omega)⟩; exact Or.inr g1
        refine ⟨by rw [e2q_69]; exact upH_self _ _ _, fun a z ha n1 n2 => by rw [e2q_69, upH_ne n2]; exact hold a z ha n1, ?_⟩
        rcases hfin with ⟨g1, g2⟩ | ⟨cq, cb, g1, g2, g3, g4, g5, g6, g7⟩
        · exact Or.inl ⟨g2, by rw [e2q_69, upH_ne nb12, hbo9, g1]; rfl⟩
        · exact Or.inr ⟨g2, cq, cb, g3, g4, g5, by rw [e2q_69, upH_ne (fun z => by rw [z, hb2] at g3; cases g3)]; exact g6, by rw [e2q_69, upH_ne (fun z => by rw [z, hb2] at g4; cases g4)]; exact g7, by rw [e2q_69, upH_ne nb12, hbo9, g1]; rfl⟩
      · refine j_aload_n (pc := 15) dX10_take_15 rfl ?_
        refine j2_get fa_X10_48_X10 hbo9 rfl dX10_take_16 ?_
        rcases e_19 : w with _ | a_19
        · refine j_ifnonnullN (pc := 19) dX10_take_19 ?_
          have hb8 := hb9 e_19
          refine j_aload_n (pc := 22) dX10_take_22 rfl ?_
          refine j_aload_n (pc := 23) dX10_take_23 rfl ?_
          refine j2_get fa_X10_16_X10 hbo9 rfl dX10_take_24 ?_
          refine j_iload_n (pc := 27) dX10_take_27 rfl ?_
          refine j_callF (pc := 28) (xm := ⟨"java/util/List", "get", "(I)Ljava/lang/Object;"⟩) (l2_get (hold _ _ hb2 (Ne.symm nb12)) (i := (k : Int)) (v := cn k) (by omega) (rg_at (by omega) (by omega))) (lw_F q226 q185 q187 q47 q189) hfe.2.2.1 (ci := 2) rfl rfl mdx_yJ2_get (RC.ofL (hold _ _ hb2 (Ne.symm nb12))) (by decide) (by decide) rfl (Nat.le_of_ble_eq_true rfl) dX10_take_28 (qR.k (fun r_28 s_28 q_28 => ?_))
          obtain ⟨e1q_28, e2q_28⟩ := q_28
          subst r_28
          subst s_28
          obtain ⟨hck, hnk⟩ := hcn k (by omega)
          refine j2_castS (C := RX12) rfl q205 (hold _ _ hck (fun z => by have h9 := hck; rw [z, hbo] at h9; cases h9)) dX10_take_33 ?_
          refine j_aload_n (pc := 36) dX10_take_36 rfl ?_
          refine j_callV (pc := 37) (c_agrees g (cn k) q (nn k) nb (cc k) c (ff k) f (hold _ _ hck (fun z => by have h9 := hck; rw [z, hbo] at h9; cases h9)) (hold _ _ hq (fun z => by have h9 := hq; rw [z, hbo] at h9; cases h9)) (hold _ _ hnk (fun z => by have h9 := hnk; rw [z, hbo] at h9; cases h9)) (hold _ _ hnb (fun z => by have h9 := hnb; rw [z, hbo] at h9; cases h9)) hcc9 hc hff9 hf) (lw_V q1012 q1013 q1014 q76 q1015) rfl md_yX12_agrees (RC.of2 (hold _ _ hck (fun z => by have h9 := hck; rw [z, hbo] at h9; cases h9)) rfl) (by decide) (by decide) rfl (Nat.le_of_ble_eq_true rfl) dX10_take_37 (qI.k (fun r_37 s_37 q_37 => ?_))
          obtain ⟨e1q_37, e2q_37⟩ := q_37
          subst r_37
          subst s_37
          have ra_37 := agN_01 (cc k) c (ff k) f 6
          refine j_if_eq (pc := 40) (tgt := 54) dX10_take_40 (by decide) (by omega) (fun c_40 => ?_) (fun c_40 => ?_)
          · refine j_null (pc := 54) dX10_take_54 ?_
            refine j2_put fp_X10_48_X10 hbo9 (by decide) (Nat.le_of_ble_eq_true rfl) rfl rfl dX10_take_55 (fun h_55 e_55 => ?_)
            have z_1 : h_55 b2 = some (pL (rg ((m : Int)) (fun j => cn j))) := by rw [e_55]; exact upH_k (hold _ _ hb2 (Ne.symm nb12)) hbo9 (by intro z; cases z)
            have z_2 : h_55 q = some (pO 10 [IV c, .ref nb]) := by rw [e_55]; exact upH_k (hold _ _ hq (fun z => by have h9 := hq; rw [z, hbo] at h9; cases h9)) hbo9 (by intro z; cases z)
            have z_3 : h_55 nb = some (pA 0 6 f) := by rw [e_55]; exact upH_k (hold _ _ hnb (fun z => by have h9 := hnb; rw [z, hbo] at h9; cases h9)) hbo9 (by intro z; cases z)
            have z_4 : h_55 (cn k) = some (pO 10 [IV (cc k), .ref (nn k)]) := by rw [e_55]; exact upH_k (hold _ _ hck (fun z => by have h9 := hck; rw [z, hbo] at h9; cases h9)) hbo9 (by intro z; cases z)
            have z_5 : h_55 (nn k) = some (pA 0 6 (ff k)) := by rw [e_55]; exact upH_k (hold _ _ hnk (fun z => by have h9 := hnk; rw [z, hbo] at h9; cases h9)) hbo9 (by intro z; cases z)
            have z_6 : h_55 bo = some (pO 8 [.ref b1, .ref b2, .null, IV pe]) := by rw [e_55]; exact upH_self _ _ _
            refine j_iinc (pc := 58) dX10_take_58 rfl (by decide) (lo' := [some (.ref bo), some (.ref q), some (IV ((k : Int) + 1))]) rfl ?_
            refine j_goto (pc := 61) (tgt := 2) dX10_take_61 (by decide) ?_
            exact j_room (by omega) (by omega) (ih_2 (k + 1) h_55 none b9 c9 (by omega) (by omega) (fun _ => hb8) (by omega) z_6 (fun a z ha hb => by rw [e_55, upH_ne hb]; exact hold a z ha hb) (Or.inl ⟨rfl, fun j hj => by rcases Nat.lt_or_ge j k with h9 | h9; (rcases hw with ⟨_, hw⟩ | ⟨cq, cb, hw, _⟩; exact hw j h9; rw [hw] at e_19; cases e_19); (rw [show j = k by omega]; omega)⟩))
          · refine j_room (cl' := (b9 - 1) + 1) (sl' := (c9 - 2) + 2) (by omega) (by omega) ?_
            refine j2_new hke.1 (Or.inl (by decide)) fn_X10_19_X12 dX10_take_43 (fun a_43 h_43 n_43 e_43 => ?_)
            have z_7 : h_43 bo = some (pO 8 [.ref b1, .ref b2, va_rf w, IV pe]) := by rw [e_43]; exact upH_old hbo9 n_43
            have z_8 : h_43 b2 = some (pL (rg ((m : Int)) (fun j => cn j))) := by rw [e_43]; exact upH_old (hold _ _ hb2 (Ne.symm nb12)) n_43
            have z_9 : h_43 q = some (pO 10 [IV c, .ref nb]) := by rw [e_43]; exact upH_old (hold _ _ hq (fun z => by have h9 := hq; rw [z, hbo] at h9; cases h9)) n_43
            have ne_10 : q ≠ a_43 := fresh_ne (hold _ _ hq (fun z => by have h9 := hq; rw [z, hbo] at h9; cases h9)) n_43
            have z_11 : h_43 nb = some (pA 0 6 f) := by rw [e_43]; exact upH_old (hold _ _ hnb (fun z => by have h9 := hnb; rw [z, hbo] at h9; cases h9)) n_43
            have z_12 : h_43 (cn k) = some (pO 10 [IV (cc k), .ref (nn k)]) := by rw [e_43]; exact upH_old (hold _ _ hck (fun z => by have h9 := hck; rw [z, hbo] at h9; cases h9)) n_43
            have ne_13 : cn k ≠ a_43 := fresh_ne (hold _ _ hck (fun z => by have h9 := hck; rw [z, hbo] at h9; cases h9)) n_43
            have z_14 : h_43 (nn k) = some (pA 0 6 (ff k)) := by rw [e_43]; exact upH_old (hold _ _ hnk (fun z => by have h9 := hnk; rw [z, hbo] at h9; cases h9)) n_43
            have z_15 : h_43 a_43 = some (pO 10 [IV 0, .null]) := by rw [e_43]; exact upH_self _ _ _
            refine j_dup (pc := 46) dX10_take_46 rfl ?_
            refine j_aload_n (pc := 47) dX10_take_47 rfl ?_
            refine j_room (cl' := ((b9 - 1) - 1) + 1) (sl' := ((c9 - 2) - 6) + 6) (by omega) (by omega) ?_
            refine j_callI (pc := 48) (c_coCopy h_43 hke a_43 q nb c f z_15 z_9 z_11 ne_10) (lw_meth q1018) q76 q1016 q1017 rfl md_yX12_init_2 (by decide) (by decide) rfl (Nat.le_of_ble_eq_true rfl) dX10_take_48 (qV.k (fun s_48 q_48 => ?_))
            obtain ⟨nb_48, nn_48, ne_48, e_48i⟩ := q_48
            have z_16 : s_48 bo = some (pO 8 [.ref b1, .ref b2, va_rf w, IV pe]) := by rw [e_48i]; exact upH_d (upH_old z_7 nn_48) (fun z => by have h9 := z_7; rw [z, z_15] at h9; cases h9)
            have z_17 : s_48 b2 = some (pL (rg ((m : Int)) (fun j => cn j))) := by rw [e_48i]; exact upH_d (upH_old z_8 nn_48) (fun z => by have h9 := z_8; rw [z, z_15] at h9; cases h9)
            have z_18 : s_48 q = some (pO 10 [IV c, .ref nb]) := by rw [e_48i]; exact upH_d (upH_old z_9 nn_48) ne_10
            have z_19 : s_48 nb = some (pA 0 6 f) := by rw [e_48i]; exact upH_d (upH_old z_11 nn_48) (fun z => by have h9 := z_11; rw [z, z_15] at h9; cases h9)
            have ne_20 : nb ≠ nb_48 := fresh_ne z_11 nn_48
            have z_21 : s_48 (cn k) = some (pO 10 [IV (cc k), .ref (nn k)]) := by rw [e_48i]; exact upH_d (upH_old z_12 nn_48) ne_13
            have z_22 : s_48 (nn k) = some (pA 0 6 (ff k)) := by rw [e_48i]; exact upH_d (upH_old z_14 nn_48) (fun z => by have h9 := z_14; rw [z, z_15] at h9; cases h9)
            have ne_23 : nn k ≠ nb_48 := fresh_ne z_14 nn_48
            have zq_48 : s_48 a_43 = some (pO 10 [IV c, .ref nb_48]) := by rw [e_48i]; exact upH_self _ _ _
            have zn_48 : s_48 nb_48 = some (pA 0 6 f) := by rw [e_48i]; exact upH_d (upH_self _ _ _) ne_48
            refine j_goto (pc := 51) (tgt := 55) dX10_take_51 (by decide) ?_
            refine j2_put fp_X10_48_X10 z_16 (by decide) (Nat.le_of_ble_eq_true rfl) rfl rfl dX10_take_55 (fun h_55_1 e_55_1 => ?_)
            have z_24 : h_55_1 b2 = some (pL (rg ((m : Int)) (fun j => cn j))) := by rw [e_55_1]; exact upH_k z_17 z_16 (by intro z; cases z)
            have z_25 : h_55_1 q = some (pO 10 [IV c, .ref nb]) := by rw [e_55_1]; exact upH_k z_18 z_16 (by intro z; cases z)
            have z_26 : h_55_1 nb = some (pA 0 6 f) := by rw [e_55_1]; exact upH_k z_19 z_16 (by intro z; cases z)
            have z_27 : h_55_1 (cn k) = some (pO 10 [IV (cc k), .ref (nn k)]) := by rw [e_55_1]; exact upH_k z_21 z_16 (by intro z; cases z)
            have z_28 : h_55_1 (nn k) = some (pA 0 6 (ff k)) := by rw [e_55_1]; exact upH_k z_22 z_16 (by intro z; cases z)
            have z_29 : h_55_1 a_43 = some (pO 10 [IV c, .ref nb_48]) := by rw [e_55_1]; exact upH_k zq_48 z_16 (by intro z; cases z)
            have z_30 : h_55_1 nb_48 = some (pA 0 6 f) := by rw [e_55_1]; exact upH_k zn_48 z_16 (by intro z; cases z)
            have z_31 : h_55_1 bo = some (pO 8 [.ref b1, .ref b2, .ref a_43, IV pe]) := by rw [e_55_1]; exact upH_self _ _ _
            refine j_iinc (pc := 58) dX10_take_58 rfl (by decide) (lo' := [some (.ref bo), some (.ref q), some (IV ((k : Int) + 1))]) rfl ?_
            refine j_goto (pc := 61) (tgt := 2) dX10_take_61 (by decide) ?_
            exact j_room (by omega) (by omega) (ih_2 (k + 1) h_55_1 (some a_43) 1 30 (by omega) (by omega) (fun z => by cases z) (by omega) z_31 (fun a z ha hb => by have h9 := hold a z ha hb; rw [e_55_1, upH_ne hb, e_48i]; exact upH_d (upH_old (by rw [e_43]; exact upH_old h9 n_43) nn_48) (fresh_ne h9 n_43)) (Or.inr ⟨a_43, nb_48, rfl, ⟨k, by omega, by omega⟩, none_of hold n_43 (fun z => by rw [z, hbo9] at n_43; cases n_43), none_of hold (by have h9 := nn_48; rw [e_43, upH_ne ne_48] at h9; exact h9) (fun z => by have h9 := nn_48; rw [e_43, upH_ne ne_48, z, hbo9] at h9; cases h9), Ne.symm ne_48, z_29, z_30⟩))
        · refine j_ifnonnull (pc := 19) (tgt := 64) dX10_take_19 (by decide) ?_
          refine j_aload_n (pc := 64) dX10_take_64 rfl ?_
          refine j2_get fa_X10_16_X10 hbo9 rfl dX10_take_65 ?_
          refine j_aload_n (pc := 68) dX10_take_68 rfl ?_
          refine j_room (cl' := (b9 - 1) + 1) (sl' := (c9 - 30) + 30) (by omega) (by omega) ?_
          refine j_callF (pc := 69) (xm := ⟨"java/util/List", "add", "(Ljava/lang/Object;)Z"⟩) (l2_add hke (hold _ _ hb2 (Ne.symm nb12)) hko (Or.inl ⟨10, _, (hold _ _ hq (fun z => by have h9 := hq; rw [z, hbo] at h9; cases h9)), by decide, rfl⟩) (fun z hz9 => by obtain ⟨i9, h9, rfl⟩ := mem_rg hz9; exact Or.inl ⟨10, _, hold _ _ (hcn i9 (by omega)).1 (fun z => by have h9 := (hcn i9 (by omega)).1; rw [z, hbo] at h9; cases h9), by decide, rfl⟩) (by have h9 := rg_len (n := (m : Int)) (by omega) (fun j => cn j); omega) 30 (by have h9 := rg_len (n := (m : Int)) (by omega) (fun j => cn j); omega)) (lw_F q1021 q480 q482 q47 q484) hfe.2.2.2.1 (ci := 2) rfl rfl mdx_yJ2_add (RC.ofL (hold _ _ hb2 (Ne.symm nb12))) (by decide) (by decide) rfl (Nat.le_of_ble_eq_true rfl) dX10_take_69 (qI.k (fun r_69_1 s_69_1 q_69_1 => ?_))
          obtain ⟨e1q_69_1, e2q_69_1⟩ := q_69_1
          subst r_69_1
          refine j_pop (pc := 74) dX10_take_74 rfl ?_
          refine j_vret (pc := 75) rfl (hQ _ ?_) dX10_take_75
          have hfin : (w = none ∧ ∀ j : Nat, j < m → agN (cc j) c (ff j) f 6 = 0) ∨ ∃ cq cb, w = some cq ∧ (∃ j : Nat, j < m ∧ agN (cc j) c (ff j) f 6 = 1) ∧ h cq = none ∧ h cb = none ∧ cq ≠ cb ∧ g cq = some (pO 10 [IV c, .ref cb]) ∧ g cb = some (pA 0 6 f) := by rcases hw with ⟨g1, g2⟩ | g1; (rw [g1] at e_19; cases e_19); exact Or.inr g1
          refine ⟨by rw [e2q_69_1]; exact upH_self _ _ _, fun a z ha n1 n2 => by rw [e2q_69_1, upH_ne n2]; exact hold a z ha n1, ?_⟩
          rcases hfin with ⟨g1, g2⟩ | ⟨cq, cb, g1, g2, g3, g4, g5, g6, g7⟩
          · exact Or.inl ⟨g2, by rw [e2q_69_1, upH_ne nb12, hbo9, g1]; rfl⟩
          · exact Or.inr ⟨g2, cq, cb, g3, g4, g5, by rw [e2q_69_1, upH_ne (fun z => by rw [z, hb2] at g3; cases g3)]; exact g6, by rw [e2q_69_1, upH_ne (fun z => by rw [z, hb2] at g4; cases g4)]; exact g7, by rw [e2q_69_1, upH_ne nb12, hbo9, g1]; rfl⟩
  exact j_room (by omega) (by omega) (hl_2 _ 0 h none 3 42 (Nat.lt_succ_self _) (by omega) (fun _ => by decide) (by omega) hbo (fun a z ha _ => ha) (Or.inl ⟨rfl, fun j hj => absurd hj (Nat.not_lt_zero _)⟩))

theorem rdN_in (σ : MM) (s : Nat) : ∀ (n k : Nat), rdN (fun q => σ.2 27 (20 * s + q)) 0 n k = if (0 : Int) ≤ k then rdN (fun q => σ.2 27 (20 * s + q)) 0 n k else 0 := fun n k => by rw [if_pos (by omega)]
theorem rdN_sInB {σ : MM} (hB : Bd σ) (s : Nat) : ∀ (n k : Nat), rdN (fun q => σ.2 27 (20 * s + q)) 0 n k = sInB σ s k n
  | 0, k => rfl
  | n + 1, k => by
    have h1 : 0 ≤ σ.2 27 (20 * s + n) ∧ σ.2 27 (20 * s + n) ≤ 5 := hB.2 27 _
    have e1 : rdI (fun q => σ.2 27 (20 * s + q)) 0 n = σ.2 27 (20 * s + n) := if_neg (fun z => by have := z.1; omega)
    have e2 : (20 * (s : Int) + (n : Int)).toNat = 20 * s + n := by omega
    show uA (rdN _ 0 n) (rdI _ 0 n).toNat (rdN _ 0 n (rdI _ 0 n).toNat + 1) k = sInB σ s k n + (if σ.2 27 (20 * (s : Int) + (n : Int)).toNat = (k : Int) then 1 else 0)
    rw [e1, e2, uA_ap, ← rdN_sInB hB s n k]
    by_cases e : k = (σ.2 27 (20 * s + n)).toNat
    · rw [if_pos e, if_pos (by omega), ← e]
    · rw [if_neg e, if_neg (by omega), Int.add_zero]

theorem md_yX10_read : MD yX10_read 2 := by decide +kernel
set_option maxHeartbeats 4000000 in
theorem c_misread {Γ : GG} {A : Nat → Prop} {K : KK} {l : Launch} (h : AL2) (hfl : l.stackTraces = false) (hke : KE Γ A K) (hfe : FE Γ) (hIOB : TH5 Γ A "java/lang/IndexOutOfBoundsException") (hIAE : TH5 Γ A "java/lang/IllegalArgumentException") (hISE : TH5 Γ A "java/lang/IllegalStateException") (o : Nat) (ad : AD) (σ : MM) (hR : Rel K h o ad σ) (hB : Bd σ) (s : Int) (hs : RR s) (hne : NE Γ) (hI : In σ) (hbe : BE Γ A K) (hse : SE Γ A K) : Ct Γ A (Rep2 Γ A K) l yX1_misread (ws_ yX1_misread cX1_misread 6 (some .int)) 10 10 40 [.ref o, IV s] h (qI (fun (r : Int) (h' : AL2) => t1 (isS σ s) = 0 ∧ r = (if σ.2 32 s.toNat = -1 then -1 else sMis σ s 6) ∧ ∃ ad', Rel K h' o ad' (σ))) (fun (E : String) (h' : AL2) => xE ["java/lang/IndexOutOfBoundsException"] (t1 (isS σ s)) E ∧ ∃ ad', Rel K h' o ad' σ) := by
  refine Ct.ofJ (own := RX1) (nm := "misread") (lo := [some (.ref o), some (IV s), none, none, none, none]) pn_X1 rfl rfl (List.forall_mem_cons.mpr ⟨rfl, (List.forall_mem_cons.mpr ⟨rfl, (fun _ h => nomatch h)⟩)⟩) (Nat.le_of_ble_eq_true rfl) rfl ?_
  have hQ : ∀ (r : Int) (h' : AL2), (t1 (isS σ s) = 0 ∧ r = (if σ.2 32 s.toNat = -1 then -1 else sMis σ s 6) ∧ ∃ ad', Rel K h' o ad' (σ)) → (qI (fun (r : Int) (h' : AL2) => t1 (isS σ s) = 0 ∧ r = (if σ.2 32 s.toNat = -1 then -1 else sMis σ s 6) ∧ ∃ ad', Rel K h' o ad' (σ))) (some (IV r)) h' := fun r h' h => ⟨r, rfl, h⟩
  generalize (qI (fun (r : Int) (h' : AL2) => t1 (isS σ s) = 0 ∧ r = (if σ.2 32 s.toNat = -1 then -1 else sMis σ s 6) ∧ ∃ ad', Rel K h' o ad' (σ))) = QP at hQ ⊢
  have hX : ∀ (E : String) (h' : AL2), (xE ["java/lang/IndexOutOfBoundsException"] (t1 (isS σ s)) E ∧ ∃ ad', Rel K h' o ad' σ) → (fun (E : String) (h' : AL2) => xE ["java/lang/IndexOutOfBoundsException"] (t1 (isS σ s)) E ∧ ∃ ad', Rel K h' o ad' σ) E h' := fun E h' h => h
  generalize (fun (E : String) (h' : AL2) => xE ["java/lang/IndexOutOfBoundsException"] (t1 (isS σ s)) E ∧ ∃ ad', Rel K h' o ad' σ) = XP at hX ⊢
  have n6 : 0 ≤ σ.1 6 ∧ σ.1 6 ≤ 5 := hB.1 6
  have n28 : 0 ≤ σ.2 28 s.toNat ∧ σ.2 28 s.toNat ≤ 20 := hB.2 28 _
  have n31 : 0 ≤ σ.2 31 s.toNat ∧ σ.2 31 s.toNat ≤ 8 := hB.2 31 _
  have n32 : -1 ≤ σ.2 32 s.toNat ∧ σ.2 32 s.toNat ≤ 39 := hB.2 32 _
  refine j_aload_n (pc := 0) dX1_misread_0 rfl ?_
  refine j_iload_n (pc := 1) dX1_misread_1 rfl ?_
  refine j_room (cl' := 4 + 6) (sl' := 20 + 20) (by omega) (by omega) ?_
  refine j_callVx (pc := 2) (c_box h hfl hke hfe hIOB o ad σ hR hB hne hI s (by omega)) (lw_V q866 q868 qs17 q44 q869) rfl md_yX1_box (RC.of2 (show h (o) = some (pO 0 [.ref (ad 1 0 0), .ref (ad 2 0 0), .ref (ad 3 0 0), .ref (ad 4 0 0), va_rf (if σ.1 14 = 0 then none else some (ad 12 0 0)), IV (σ.1 0), .ref (ad 5 0 0), .ref (ad 6 0 0)]) from hR.top) rfl) (nT _) (fun E x9 hx9 => by obtain ⟨rfl, hn9, hR9⟩ := hx9; exact hX _ _ ⟨xE_of 0 (by unfold t1; (repeat' split) <;> omega) rfl, ad, hR9⟩) (by decide) (by decide) rfl (Nat.le_of_ble_eq_true rfl) dX1_misread_2 (qR.k (fun r_2 s_2 q_2 => ?_))
  obtain ⟨q_2p, q_2R, b1_2, b2_2, q_2B, q_2I⟩ := q_2
  refine j_astore_n (pc := 5) dX1_misread_5 (by decide) (lo' := [some (.ref o), some (IV s), some (.ref r_2), none, none, none]) rfl ?_
  by_cases c_set : σ.2 32 s.toNat = -1
  · have zs_6 : s_2 r_2 = some (pO 8 [.ref b1_2, .ref b2_2, .null, IV (σ.2 21 (s).toNat)]) := by have h9 := q_2B.1; rw [if_pos c_set] at h9; exact h9
    refine j_aload_n (pc := 6) dX1_misread_6 rfl ?_
    refine j2_get fa_X1_246_X10 zs_6 rfl dX1_misread_7 ?_
    refine j_ifnonnullN (pc := 10) dX1_misread_10 ?_
    refine j_iconst (pc := 13) dX1_misread_13 rfl ?_
    refine j_iret (pc := 14) rfl (hQ _ _ ?_) dX1_misread_14
    exact ⟨by unfold t1; (repeat' split) <;> omega, by rw [if_pos c_set], ad, q_2R⟩
  · have zs_6 : s_2 r_2 = some (pO 8 [.ref b1_2, .ref b2_2, .ref (ad 24 s.toNat 0), IV (σ.2 21 (s).toNat)]) := by have h9 := q_2B.1; rw [if_neg c_set] at h9; exact h9
    obtain ⟨hz, h19⟩ := hI.boxed (s := s.toNat) (by omega) c_set
    refine j_aload_n (pc := 6) dX1_misread_6 rfl ?_
    refine j2_get fa_X1_246_X10 zs_6 rfl dX1_misread_7 ?_
    refine j_ifnonnull (pc := 10) (tgt := 15) dX1_misread_10 (by decide) ?_
    refine j_aload_n (pc := 15) dX1_misread_15 rfl ?_
    refine j_iconst (pc := 16) dX1_misread_16 rfl ?_
    refine j_iconst (pc := 17) dX1_misread_17 rfl ?_
    refine j_room (cl' := 2 + 2) (sl' := 10 + 10) (by omega) (by omega) ?_
    refine j_callV (pc := 18) (c_read s_2 hke hfe hbe hse hne r_2 b1_2 b2_2 (some (ad 24 s.toNat 0)) (σ.2 21 (s).toNat) (σ.2 28 (s).toNat) (fun n => σ.2 27 (20 * (s).toNat + n)) (fun i => hB.2 27 _) (by omega) 0 0 (by omega) zs_6 q_2B.2.1) (lw_V q1007 q202 q203 q70 q204) rfl md_yX10_read (RC.of2 zs_6 rfl) (by decide) (by decide) rfl (Nat.le_of_ble_eq_true rfl) dX1_misread_18 (qR.k (fun r_18 s_18 q_18 => ?_))
    obtain ⟨nb_18, nq_18, nn_18, ne_18, zq_18, zn_18, ko_18⟩ := q_18
    have fo_r_18 : ∀ k i j, live σ k i j → ad k i j ≠ r_18 := fun k i j hl => q_2R.fresh nq_18 hl
    have fo_nb_18 : ∀ k i j, live σ k i j → ad k i j ≠ nb_18 := fun k i j hl => q_2R.fresh nn_18 hl
    have Rr18 : Rel K s_18 o ad σ := q_2R.other ko_18
    refine j_astore_n (pc := 21) dX1_misread_21 (by decide) (lo' := [some (.ref o), some (IV s), some (.ref r_2), some (.ref r_18), none, none]) rfl ?_
    refine j_iconst (pc := 22) dX1_misread_22 rfl ?_
    refine j_istore (pc := 23) dX1_misread_23 (by decide) (lo' := [some (.ref o), some (IV s), some (.ref r_2), some (.ref r_18), some (IV 0), none]) rfl ?_
    refine j_iconst (pc := 25) dX1_misread_25 rfl ?_
    refine j_istore (pc := 26) dX1_misread_26 (by decide) (lo' := [some (.ref o), some (IV s), some (.ref r_2), some (.ref r_18), some (IV 0), some (IV 0)]) rfl ?_
    have hl_28 : ∀ (fu : Nat) (k : Nat) (z : Int), 6 - k < fu → k ≤ 6 → z = sMis σ s k → J Γ A (Rep2 Γ A K) l RX1 "misread" cX1_misread 6 (some .int) [] 10 10 40 QP XP 0 0 s_18 28 [some (.ref o), some (IV s), some (.ref r_2), some (.ref r_18), some (IV z), some (IV (k : Int))] [] := by
      intro fu
      induction fu with
      | zero => intro k z hm; exact absurd hm (Nat.not_lt_zero _)
      | succ fu ih_28 =>
        intro k z hm hk hzz
        have hr9 := sMis_rng hB s k
        have eB : rdN (fun n => σ.2 27 (20 * s.toNat + n)) 0 (σ.2 28 s.toNat).toNat k = sBoxed σ s k := by rw [rdN_sInB hB, show ((s.toNat : Nat) : Int) = s by omega]
        have rB := sBoxed_rng hB s k
        rw [← eB] at rB
        have rN : 0 ≤ σ.2 29 (6 * (σ.2 32 s.toNat).toNat + k) ∧ σ.2 29 (6 * (σ.2 32 s.toNat).toNat + k) ≤ 20 := hB.2 29 _
        have eN : (6 * σ.2 32 s.toNat + k).toNat = 6 * (σ.2 32 s.toNat).toNat + k := by omega
        refine j_iload (pc := 28) dX1_misread_28 rfl ?_
        refine j_bipush (pc := 30) (a := 6) dX1_misread_30 (by decide) ?_
        refine j_icmp_ge (pc := 32) (tgt := 68) dX1_misread_32 (by decide) (by omega) (by decide) (fun c_32 => ?_) (fun c_32 => ?_)
        · refine j_iload (pc := 68) dX1_misread_68 rfl ?_
          refine j_iret (pc := 70) rfl (hQ _ _ ?_) dX1_misread_70
          exact ⟨by unfold t1; (repeat' split) <;> omega, by rw [if_neg c_set, hzz, show k = 6 by omega], ad, Rr18⟩
        · refine j_iload (pc := 35) dX1_misread_35 rfl ?_
          refine j_iconst (pc := 37) dX1_misread_37 rfl ?_
          refine j_aload_n (pc := 38) dX1_misread_38 rfl ?_
          refine j2_get fa_X1_267_X12 zq_18 rfl dX1_misread_39 ?_
          refine j_iload (pc := 42) dX1_misread_42 rfl ?_
          refine j2_iald (i := (k : Int)) zn_18 (by show 0 ≤ (k : Int) ∧ (k : Int) < ((6 : Nat) : Int); omega) dX1_misread_44 ?_
          refine j_eqI ((rdN (fun n => σ.2 27 (20 * (s).toNat + n)) 0 (σ.2 28 (s).toNat).toNat) k) rfl ?_
          refine j_aload_n (pc := 45) dX1_misread_45 rfl ?_
          refine j2_get fa_X1_246_X10 (ko_18 _ _ zs_6) rfl dX1_misread_46 ?_
          refine j2_get fa_X1_267_X12 (show s_18 (ad 24 s.toNat 0) = some (pO 10 [IV (σ.2 30 (σ.2 32 s.toNat).toNat), .ref (ad 27 s.toNat 0)]) from Rr18.at 24 s.toNat 0 ⟨hz, h19, c_set, rfl⟩) rfl dX1_misread_49 ?_
          refine j_iload (pc := 52) dX1_misread_52 rfl ?_
          refine j2_iald (i := (k : Int)) (show s_18 (ad 27 s.toNat 0) = some (pA 0 6 (c6 (fun q => σ.2 29 (6 * (σ.2 32 s.toNat).toNat + q)))) from Rr18.at 27 s.toNat 0 ⟨hz, h19, c_set, rfl⟩) (by show 0 ≤ (k : Int) ∧ (k : Int) < ((6 : Nat) : Int); omega) dX1_misread_54 ?_
          refine j_eqI (σ.2 29 (6 * (σ.2 32 s.toNat).toNat + k)) (c6_at (f := (fun q => σ.2 29 (6 * (σ.2 32 s.toNat).toNat + q))) (k := k) (by omega)).symm ?_
          have n_1 : 0 ≤ σ.2 29 (6 * (σ.2 32 s.toNat).toNat + k) ∧ σ.2 29 (6 * (σ.2 32 s.toNat).toNat + k) ≤ 20 := hB.2 29 (6 * (σ.2 32 s.toNat).toNat + k)
          refine j_isub (pc := 55) dX1_misread_55 ?_
          refine j_callS (pc := 56) (k_max s_18 0 (((rdN (fun n => σ.2 27 (20 * (s).toNat + n)) 0 (σ.2 28 (s).toNat).toNat) k) - (σ.2 29 (6 * (σ.2 32 s.toNat).toNat + k))) (by decide) (by omega)) (lw_S q400 q401 q55 q402) md_yJ9_max (by decide) (by decide) rfl (Nat.le_of_ble_eq_true rfl) dX1_misread_56 (qI.k (fun r_56 s_56 q_56 => ?_))
          obtain ⟨e1q_56, e2q_56⟩ := q_56
          subst r_56
          subst s_56
          refine j_iadd (pc := 59) dX1_misread_59 ?_
          refine j_istore (pc := 60) dX1_misread_60 (by decide) (lo' := [some (.ref o), some (IV s), some (.ref r_2), some (.ref r_18), some (IV (z + (max 0 (((rdN (fun n => σ.2 27 (20 * (s).toNat + n)) 0 (σ.2 28 (s).toNat).toNat) k) - (σ.2 29 (6 * (σ.2 32 s.toNat).toNat + k)))))), some (IV (k : Int))]) rfl ?_
          refine j_iinc (pc := 62) dX1_misread_62 rfl (by decide) (lo' := [some (.ref o), some (IV s), some (.ref r_2), some (.ref r_18), some (IV (z + (max 0 (((rdN (fun n => σ.2 27 (20 * (s).toNat + n)) 0 (σ.2 28 (s).toNat).toNat) k) - (σ.2 29 (6 * (σ.2 32 s.toNat).toNat + k)))))), some (IV ((k : Int) + 1))]) rfl ?_
          refine j_goto (pc := 65) (tgt := 28) dX1_misread_65 (by decide) ?_
          exact j_room (by omega) (by omega) (ih_28 (k + 1) (z + (max 0 (((rdN (fun n => σ.2 27 (20 * (s).toNat + n)) 0 (σ.2 28 (s).toNat).toNat) k) - (σ.2 29 (6 * (σ.2 32 s.toNat).toNat + k))))) (by omega) (by omega) (by show _ = sMis σ s k + (if 0 < sBoxed σ s k - σ.2 29 (6 * σ.2 32 s.toNat + k).toNat then sBoxed σ s k - σ.2 29 (6 * σ.2 32 s.toNat + k).toNat else 0); rw [← hzz, ← eB, eN]; split <;> omega))
    exact j_room (by omega) (by omega) (hl_28 _ 0 0 (Nat.lt_succ_self _) (by omega) rfl)

