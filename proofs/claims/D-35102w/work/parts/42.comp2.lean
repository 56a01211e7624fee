set_option maxRecDepth 100000
theorem rrA {f : Nat → Int} (h : ∀ i, RR (f i)) {k : Nat} {v : Int} (hv : RR v) : ∀ i, RR (uA f k v i) := fun i => by
  unfold uA
  split
  · exact hv
  · exact h i
theorem rr0 : ∀ i : Nat, RR ((fun _ => 0 : Nat → Int) i) := fun _ => by show RR 0; decide
theorem ex1 {a n : Int} : exE (uA (uA (fun _ => 0) 0 a) 1 n) 1 ↔ 0 ≤ a ∧ a < n := by
  constructor
  · intro h; exact h 0 (by decide)
  · intro h i hi
    obtain rfl : i = 0 := by omega
    exact h
theorem ex2 {a n b m : Int} : exE (uA (uA (uA (uA (fun _ => 0) 0 a) 1 n) 2 b) 3 m) 2 ↔ (0 ≤ a ∧ a < n) ∧ 0 ≤ b ∧ b < m := by
  constructor
  · intro h; exact ⟨h 0 (by decide), h 1 (by decide)⟩
  · intro h i hi
    rcases (show i = 0 ∨ i = 1 by omega) with rfl | rfl
    · exact h.1
    · exact h.2
/-- a mistake: which exception -/
def xE (Es : List String) (t : Int) (E : String) : Prop := 1 ≤ t ∧ Es[t.toNat - 1]? = some E
theorem xE_of {Es : List String} {t : Int} {E : String} (k : Nat) (ht : t = (k : Int) + 1) (h : Es[k]? = some E) : xE Es t E := ⟨by omega, by rw [show t.toNat - 1 = k by omega]; exact h⟩

theorem md_yX1_exist : MD yX1_exist 1 := by decide +kernel
theorem md_yX1_street : MD yX1_street 2 := by decide +kernel
theorem md_yX1_want : MD yX1_want 1 := by decide +kernel
theorem fa_X1_9_X1 : FA RX1 9 0 0 := ⟨RX1, TX1, 8, "BallotFoundry", rfl, in_X1, by decide, q116, Or.inl rfl⟩
set_option maxHeartbeats 4000000 in
theorem c_bar {Γ : GG} {A : Nat → Prop} {K : KK} {l : Launch} (h : AL2) (hfl : l.stackTraces = false) (hke : KE Γ A K) (hIOB : TH5 Γ A "java/lang/IndexOutOfBoundsException") (hIAE : TH5 Γ A "java/lang/IllegalArgumentException") (hISE : TH5 Γ A "java/lang/IllegalStateException") (o : Nat) (ad : AD) (σ : MM) (hR : Rel K h o ad σ) (hB : Bd σ) (a : Int) (ha : RR a) (b : Int) (hb : RR b) (v : Int) (hv : RR v) (hv2 : v = 0 ∨ v = 1) : Ct Γ A (Rep2 Γ A K) l yX1_bar (ws_ yX1_bar cX1_bar 6 (some .boolean)) 8 3 16 [.ref o, IV a, IV b, IV v] h (qI (fun (r : Int) (h' : AL2) => t2 (isC a ∧ isC b) (sStreet a b ≠ -1) = 0 ∧ r = σ.2 1 (sStreet a b).toNat ∧ ∃ ad', Rel K h' o ad' (setA σ 1 (sStreet a b).toNat v))) (fun (E : String) (h' : AL2) => xE ["java/lang/IndexOutOfBoundsException", "java/lang/IllegalArgumentException"] (t2 (isC a ∧ isC b) (sStreet a b ≠ -1)) E ∧ ∃ ad', Rel K h' o ad' σ) := by
  refine Ct.ofJ (own := RX1) (nm := "bar") (lo := [some (.ref o), some (IV a), some (IV b), some (IV v), none, none]) pn_X1 rfl rfl (List.forall_mem_cons.mpr ⟨rfl, (List.forall_mem_cons.mpr ⟨rfl, (List.forall_mem_cons.mpr ⟨rfl, (List.forall_mem_cons.mpr ⟨rfl, (fun _ h => nomatch h)⟩)⟩)⟩)⟩) (Nat.le_of_ble_eq_true rfl) rfl ?_
  have hQ : ∀ (r : Int) (h' : AL2), (t2 (isC a ∧ isC b) (sStreet a b ≠ -1) = 0 ∧ r = σ.2 1 (sStreet a b).toNat ∧ ∃ ad', Rel K h' o ad' (setA σ 1 (sStreet a b).toNat v)) → (qI (fun (r : Int) (h' : AL2) => t2 (isC a ∧ isC b) (sStreet a b ≠ -1) = 0 ∧ r = σ.2 1 (sStreet a b).toNat ∧ ∃ ad', Rel K h' o ad' (setA σ 1 (sStreet a b).toNat v))) (some (IV r)) h' := fun r h' h => ⟨r, rfl, h⟩
  generalize (qI (fun (r : Int) (h' : AL2) => t2 (isC a ∧ isC b) (sStreet a b ≠ -1) = 0 ∧ r = σ.2 1 (sStreet a b).toNat ∧ ∃ ad', Rel K h' o ad' (setA σ 1 (sStreet a b).toNat v))) = QP at hQ ⊢
  have hX : ∀ (E : String) (h' : AL2), (xE ["java/lang/IndexOutOfBoundsException", "java/lang/IllegalArgumentException"] (t2 (isC a ∧ isC b) (sStreet a b ≠ -1)) E ∧ ∃ ad', Rel K h' o ad' σ) → (fun (E : String) (h' : AL2) => xE ["java/lang/IndexOutOfBoundsException", "java/lang/IllegalArgumentException"] (t2 (isC a ∧ isC b) (sStreet a b ≠ -1)) E ∧ ∃ ad', Rel K h' o ad' σ) E h' := fun E h' h => h
  generalize (fun (E : String) (h' : AL2) => xE ["java/lang/IndexOutOfBoundsException", "java/lang/IllegalArgumentException"] (t2 (isC a ∧ isC b) (sStreet a b ≠ -1)) E ∧ ∃ ad', Rel K h' o ad' σ) = XP at hX ⊢
  refine j_iconst (pc := 0) dX1_bar_0 rfl ?_
  refine j_room (cl' := 2 + 1) (sl' := 12 + 4) (by omega) (by omega) ?_
  refine j2_newa (i := 4) (N := 4) (atype := .int) hke.1 (Or.inl ⟨rfl, rfl⟩) q141 (by omega) (by omega) (by omega) dX1_bar_1 (fun a_1 h_1 n_1 e_1 => ?_)
  have z_1 : h_1 a_1 = some (pA 0 4 (fun _ => 0)) := by rw [e_1]; exact upH_self _ _ _
  have fo_a_1 : ∀ k i j, live σ k i j → ad k i j ≠ a_1 := fun k i j hl => hR.fresh n_1 hl
  have R_2 : Rel K h_1 o ad σ := hR.other (fun b c hb => by rw [e_1]; exact upH_old hb n_1)
  refine j_dup (pc := 3) dX1_bar_3 rfl ?_
  refine j_iconst (pc := 4) dX1_bar_4 rfl ?_
  refine j_iload_n (pc := 5) dX1_bar_5 rfl ?_
  refine j2_iast (i := 0) z_1 (by show 0 ≤ 0 ∧ 0 < ((4 : Nat) : Int); omega) dX1_bar_6 (fun h_6 e_6 => ?_)
  have z_3 : h_6 a_1 = some (pA 0 4 (uA (fun _ => 0) 0 a)) := by rw [e_6]; exact upH_self _ _ _
  have R_4 : Rel K h_6 o ad σ := R_2.off e_6 fo_a_1
  refine j_dup (pc := 7) dX1_bar_7 rfl ?_
  refine j_iconst (pc := 8) dX1_bar_8 rfl ?_
  refine j_bipush (pc := 9) (a := 36) dX1_bar_9 (by decide) ?_
  refine j2_iast (i := 1) z_3 (by show 0 ≤ 1 ∧ 1 < ((4 : Nat) : Int); omega) dX1_bar_11 (fun h_11 e_11 => ?_)
  have z_5 : h_11 a_1 = some (pA 0 4 (uA (uA (fun _ => 0) 0 a) 1 36)) := by rw [e_11]; exact upH_self _ _ _
  have R_6 : Rel K h_11 o ad σ := R_4.off e_11 fo_a_1
  refine j_dup (pc := 12) dX1_bar_12 rfl ?_
  refine j_iconst (pc := 13) dX1_bar_13 rfl ?_
  refine j_iload_n (pc := 14) dX1_bar_14 rfl ?_
  refine j2_iast (i := 2) z_5 (by show 0 ≤ 2 ∧ 2 < ((4 : Nat) : Int); omega) dX1_bar_15 (fun h_15 e_15 => ?_)
  have z_7 : h_15 a_1 = some (pA 0 4 (uA (uA (uA (fun _ => 0) 0 a) 1 36) 2 b)) := by rw [e_15]; exact upH_self _ _ _
  have R_8 : Rel K h_15 o ad σ := R_6.off e_15 fo_a_1
  refine j_dup (pc := 16) dX1_bar_16 rfl ?_
  refine j_iconst (pc := 17) dX1_bar_17 rfl ?_
  refine j_bipush (pc := 18) (a := 36) dX1_bar_18 (by decide) ?_
  refine j2_iast (i := 3) z_7 (by show 0 ≤ 3 ∧ 3 < ((4 : Nat) : Int); omega) dX1_bar_20 (fun h_20 e_20 => ?_)
  have z_9 : h_20 a_1 = some (pA 0 4 (uA (uA (uA (uA (fun _ => 0) 0 a) 1 36) 2 b) 3 36)) := by rw [e_20]; exact upH_self _ _ _
  have R_10 : Rel K h_20 o ad σ := R_8.off e_20 fo_a_1
  refine j_room (cl' := 1 + 1) (sl' := 6 + 6) (by omega) (by omega) ?_
  refine j_callSx (pc := 21) (c_exist h_20 hfl RG.of2 hIOB a_1 2 (uA (uA (uA (uA (fun _ => 0) 0 a) 1 36) 2 b) 3 36) (rrA (rrA (rrA (rrA rr0 (by omega)) (by decide)) (by omega)) (by decide)) (by decide) z_9) (lw_S q370 q371 q44 q372) md_yX1_exist (nT _) (fun E x9 hx9 => by obtain ⟨rfl, hn9, rfl⟩ := hx9; rw [ex2] at hn9; exact hX _ _ ⟨xE_of 0 (by unfold t2; (repeat' split) <;> omega) rfl, ad, R_10⟩) (by decide) (by decide) rfl (Nat.le_of_ble_eq_true rfl) dX1_bar_21 (qV.k (fun s_21 q_21 => ?_))
  obtain ⟨q_21a, q_21e⟩ := q_21
  subst s_21
  have q_21b := ex2.mp q_21a
  refine j_iload_n (pc := 24) dX1_bar_24 rfl ?_
  refine j_iload_n (pc := 25) dX1_bar_25 rfl ?_
  refine j_callS (pc := 26) (c_street h_20 a b (by omega) (by omega)) (lw_S q394 q395 q44 q396) md_yX1_street (by decide) (by decide) rfl (Nat.le_of_ble_eq_true rfl) dX1_bar_26 (qI.k (fun r_26 s_26 q_26 => ?_))
  obtain ⟨e1q_26, e2q_26⟩ := q_26
  subst r_26
  subst s_26
  have rs_26 := sStreet_rng (a := a) (b := b) (by omega) (by omega)
  refine j_istore (pc := 29) dX1_bar_29 (by decide) (lo' := [some (.ref o), some (IV a), some (IV b), some (IV v), some (IV (sStreet a b)), none]) rfl ?_
  refine j_iload (pc := 31) dX1_bar_31 rfl ?_
  refine j_iconst (pc := 33) dX1_bar_33 rfl ?_
  refine j_icmp_eq (pc := 34) (tgt := 41) dX1_bar_34 (by decide) (by omega) (by decide) (fun c_34 => ?_) (fun c_34 => ?_)
  · refine j_iconst (pc := 41) dX1_bar_41 rfl ?_
    refine j_room (cl' := 0 + 1) (sl' := 0 + 6) (by omega) (by omega) ?_
    refine j_callSx (pc := 42) (c_want h_20 hfl RG.of2 hIAE 0 (Or.inl rfl)) (lw_S q403 q404 q44 q405) md_yX1_want (nT _) (fun E x9 hx9 => by obtain ⟨hn9, rfl, rfl⟩ := hx9; (try have hn8 := bI_0 hn9); exact hX _ _ ⟨xE_of 1 (by unfold t2; (repeat' split) <;> omega) rfl, ad, R_10⟩) (by decide) (by decide) rfl (Nat.le_of_ble_eq_true rfl) dX1_bar_42 (qV.k (fun s_42 q_42 => ?_))
    exact absurd q_42.1 (by decide)
  · refine j_iconst (pc := 37) dX1_bar_37 rfl ?_
    refine j_goto (pc := 38) (tgt := 42) dX1_bar_38 (by decide) ?_
    refine j_room (cl' := 0 + 1) (sl' := 0 + 6) (by omega) (by omega) ?_
    refine j_callSx (pc := 42) (c_want h_20 hfl RG.of2 hIAE 1 (Or.inr rfl)) (lw_S q403 q404 q44 q405) md_yX1_want (nT _) (fun E x9 hx9 => by obtain ⟨hn9, rfl, rfl⟩ := hx9; (try have hn8 := bI_0 hn9); exact hX _ _ ⟨xE_of 1 (by unfold t2; (repeat' split) <;> omega) rfl, ad, R_10⟩) (by decide) (by decide) rfl (Nat.le_of_ble_eq_true rfl) dX1_bar_42 (qV.k (fun s_42_1 q_42_1 => ?_))
    obtain ⟨q_42_1b, q_42_1e⟩ := q_42_1
    subst s_42_1
    refine j_aload_n (pc := 45) dX1_bar_45 rfl ?_
    refine j2_get fa_X1_9_X1 (show h_20 (o) = some (pO 0 [.ref (ad 1 0 0), .ref (ad 2 0 0), .ref (ad 3 0 0), .ref (ad 4 0 0), va_rf (if σ.1 14 = 0 then none else some (ad 12 0 0)), IV (σ.1 0), .ref (ad 5 0 0), .ref (ad 6 0 0)]) from R_10.top) rfl dX1_bar_46 ?_
    refine j_iload (pc := 49) dX1_bar_49 rfl ?_
    refine j2_zald (i := sStreet a b) (show h_20 (ad 1 0 0) = some (pA 1 72 (σ.2 1)) from R_10.at 1 0 0 ⟨rfl, rfl⟩) (by show 0 ≤ sStreet a b ∧ sStreet a b < ((72 : Nat) : Int); omega) dX1_bar_51 ?_
    have n_11 : 0 ≤ σ.2 1 (sStreet a b).toNat ∧ σ.2 1 (sStreet a b).toNat ≤ 1 := hB.2 1 ((sStreet a b).toNat)
    refine j_istore (pc := 52) dX1_bar_52 (by decide) (lo' := [some (.ref o), some (IV a), some (IV b), some (IV v), some (IV (sStreet a b)), some (IV (σ.2 1 (sStreet a b).toNat))]) rfl ?_
    refine j_aload_n (pc := 54) dX1_bar_54 rfl ?_
    refine j2_get fa_X1_9_X1 (show h_20 (o) = some (pO 0 [.ref (ad 1 0 0), .ref (ad 2 0 0), .ref (ad 3 0 0), .ref (ad 4 0 0), va_rf (if σ.1 14 = 0 then none else some (ad 12 0 0)), IV (σ.1 0), .ref (ad 5 0 0), .ref (ad 6 0 0)]) from R_10.top) rfl dX1_bar_55 ?_
    refine j_iload (pc := 58) dX1_bar_58 rfl ?_
    refine j_iload_n (pc := 60) dX1_bar_60 rfl ?_
    refine j2_zast (i := sStreet a b) (show h_20 (ad 1 0 0) = some (pA 1 72 (σ.2 1)) from R_10.at 1 0 0 ⟨rfl, rfl⟩) (by show 0 ≤ sStreet a b ∧ sStreet a b < ((72 : Nat) : Int); omega) (by omega) dX1_bar_61 (fun h_61 e_61 => ?_)
    have z_12 : h_61 a_1 = some (pA 0 4 (uA (uA (uA (uA (fun _ => 0) 0 a) 1 36) 2 b) 3 36)) := by rw [e_61]; exact upH_k z_9 (show h_20 (ad 1 0 0) = some (pA 1 72 (σ.2 1)) from R_10.at 1 0 0 ⟨rfl, rfl⟩) (by intro z; cases z)
    have z_13 : h_61 (ad 1 0 0) = some (pA 1 72 (uA (σ.2 1) (sStreet a b).toNat v)) := by rw [e_61]; exact upH_self _ _ _
    have R_14 : Rel K h_61 o ad (setA σ 1 (sStreet a b).toNat v) := R_10.bar e_61
    refine j_iload (pc := 62) dX1_bar_62 rfl ?_
    refine j_zret (pc := 64) rfl (by omega) (hQ _ _ ?_) dX1_bar_64
    exact ⟨by unfold t2; (repeat' split) <;> omega, rfl, ad, R_14⟩

def wF (σ : MM) (c : Int) : Nat → MM
  | 0 => σ
  | k + 1 => setA (wF σ c k) 2 k (if (k : Int) = c then 0 else -1)
theorem wF_1 (σ : MM) (c : Int) : ∀ n : Nat, (wF σ c n).1 = σ.1
  | 0 => rfl
  | n + 1 => wF_1 σ c n
theorem wF_o (σ : MM) (c : Int) {k : Nat} (hk : k ≠ 2) : ∀ n : Nat, (wF σ c n).2 k = σ.2 k
  | 0 => rfl
  | n + 1 => by unfold wF; rw [setA_2, if_neg hk]; exact wF_o σ c hk n
theorem wF_2 (σ : MM) (c : Int) (j : Nat) : ∀ n : Nat, (wF σ c n).2 2 j = if j < n then (if (j : Int) = c then 0 else -1) else σ.2 2 j
  | 0 => by rw [if_neg (Nat.not_lt_zero _)]; rfl
  | n + 1 => by
    unfold wF
    rw [setA_2, if_pos rfl, uA_ap]
    by_cases e : j = n
    · subst e; rw [if_pos rfl, if_pos (Nat.lt_succ_self _)]
    · rw [if_neg e, wF_2 σ c j n]
      by_cases h : j < n
      · rw [if_pos h, if_pos (show j < n + 1 by omega)]
      · rw [if_neg h, if_neg (by omega)]
theorem wF_36 (σ : MM) {c : Int} (hc : isC c) : wF σ c 36 = setA (sFi σ 36) 2 c.toNat 0 := by
  refine Prod.ext ?_ (funext fun k => funext fun j => ?_)
  · rw [wF_1]; exact (sFi_fr σ 0 (by decide) 36).1.symm
  · rw [setA_2]
    by_cases e : k = 2
    · subst e
      rw [if_pos rfl, wF_2, uA_ap, sFi_2]
      by_cases h : j = c.toNat
      · rw [if_pos h, if_pos (by omega), if_pos (by omega)]
      · rw [if_neg h]
        by_cases h2 : j < 36
        · rw [if_pos h2, if_neg (by omega), if_pos h2]
        · rw [if_neg h2, if_neg h2]
    · rw [if_neg e, wF_o σ c e, (sFi_fr σ k e 36).2]

theorem fa_X1_30_X1 : FA RX1 30 0 7 := ⟨RX1, TX1, 8, "BallotFoundry", rfl, in_X1, by decide, q123, Or.inl rfl⟩
theorem fa_X1_27_X1 : FA RX1 27 0 6 := ⟨RX1, TX1, 8, "BallotFoundry", rfl, in_X1, by decide, q122, Or.inl rfl⟩
set_option maxHeartbeats 4000000 in
theorem c_walkFrom {Γ : GG} {A : Nat → Prop} {K : KK} {l : Launch} (h : AL2) (o : Nat) (ad : AD) (σ : MM) (hR : Rel K h o ad σ) (hB : Bd σ) (c : Int) (hc : isC c) : Ct Γ A (Rep2 Γ A K) l yX1_walkFrom (ws_ yX1_walkFrom cX1_walkFrom 6 none) 3 0 0 [.ref o, IV c] h (qV (fun (h' : AL2) => Rel K h' o ad (sFinds σ c) ∧ Bd (sFinds σ c))) X0 := by
  refine Ct.ofJ (own := RX1) (nm := "walkFrom") (lo := [some (.ref o), some (IV c), none, none, none, none]) pn_X1 rfl rfl (List.forall_mem_cons.mpr ⟨rfl, (List.forall_mem_cons.mpr ⟨rfl, (fun _ h => nomatch h)⟩)⟩) (Nat.le_of_ble_eq_true rfl) rfl ?_
  have hQ : ∀ (h' : AL2), (Rel K h' o ad (sFinds σ c) ∧ Bd (sFinds σ c)) → (qV (fun (h' : AL2) => Rel K h' o ad (sFinds σ c) ∧ Bd (sFinds σ c))) none h' := fun h' h => ⟨rfl, h⟩
  generalize (qV (fun (h' : AL2) => Rel K h' o ad (sFinds σ c) ∧ Bd (sFinds σ c))) = QP at hQ ⊢
  refine j_iconst (pc := 0) dX1_walkFrom_0 rfl ?_
  refine j_istore_n (pc := 1) dX1_walkFrom_1 (by decide) (lo' := [some (.ref o), some (IV c), some (IV 0), none, none, none]) rfl ?_
  have hl_2 : ∀ (fu : Nat) (k : Nat) (g : AL2) (s : MM), 36 - k < fu → k ≤ 36 → s = wF σ c k → Rel K g o ad s → J Γ A (Rep2 Γ A K) l RX1 "walkFrom" cX1_walkFrom 6 none [] 3 0 0 QP X0 0 0 g 2 [some (.ref o), some (IV c), some (IV (k : Int)), none, none, none] [] := by
    intro fu
    induction fu with
    | zero => intro k g s hm; exact absurd hm (Nat.not_lt_zero _)
    | succ fu ih_2 =>
      intro k g s hm hk hs hg
      refine j_iload_n (pc := 2) dX1_walkFrom_2 rfl ?_
      refine j_bipush (pc := 3) (a := 36) dX1_walkFrom_3 (by decide) ?_
      refine j_icmp_ge (pc := 5) (tgt := 30) dX1_walkFrom_5 (by decide) (by omega) (by decide) (fun c_5 => ?_) (fun c_5 => ?_)
      · obtain rfl : k = 36 := by omega
        refine j_aload_n (pc := 30) dX1_walkFrom_30 rfl ?_
        refine j2_get fa_X1_30_X1 (show g (o) = some (pO 0 [.ref (ad 1 0 0), .ref (ad 2 0 0), .ref (ad 3 0 0), .ref (ad 4 0 0), va_rf (if s.1 14 = 0 then none else some (ad 12 0 0)), IV (s.1 0), .ref (ad 5 0 0), .ref (ad 6 0 0)]) from hg.top) rfl dX1_walkFrom_31 ?_
        refine j_iconst (pc := 34) dX1_walkFrom_34 rfl ?_
        refine j_iload_n (pc := 35) dX1_walkFrom_35 rfl ?_
        refine j2_iast (i := 0) (show g (ad 6 0 0) = some (pA 0 36 (s.2 3)) from hg.at 6 0 0 ⟨rfl, rfl⟩) (by show 0 ≤ 0 ∧ 0 < ((36 : Nat) : Int); omega) dX1_walkFrom_36 (fun h_36 e_36 => ?_)
        have z_1 : h_36 (ad 6 0 0) = some (pA 0 36 (uA (s.2 3) 0 c)) := by rw [e_36]; exact upH_self _ _ _
        have R_2 : Rel K h_36 o ad (setA s 3 0 c) := hg.reached e_36
        refine j_iconst (pc := 37) dX1_walkFrom_37 rfl ?_
        refine j_istore_n (pc := 38) dX1_walkFrom_38 (by decide) (lo' := [some (.ref o), some (IV c), some (IV 1), none, none, none]) rfl ?_
        refine j_iconst (pc := 39) dX1_walkFrom_39 rfl ?_
        refine j_istore_n (pc := 40) dX1_walkFrom_40 (by decide) (lo' := [some (.ref o), some (IV c), some (IV 1), some (IV 0), none, none]) rfl ?_
        have hl_41 : ∀ (fu : Nat) (a : Nat) (g2 : AL2) (s : MM) (m : Int), 36 - a < fu → sFo (setA (setA (sFi σ 36) 2 c.toNat 0) 3 0 c) 1 a = (s, m) → BI s m → (a : Int) ≤ m → Rel K g2 o ad s → J Γ A (Rep2 Γ A K) l RX1 "walkFrom" cX1_walkFrom 6 none [] 3 0 0 QP X0 0 0 g2 41 [some (.ref o), some (IV c), some (IV m), some (IV (a : Int)), none, none] [] := by
          intro fu
          induction fu with
          | zero => intro a g2 s m hm; exact absurd hm (Nat.not_lt_zero _)
          | succ fu ih_41 =>
            intro a g2 s m hm he hI ha hg2
            have hm36 : 1 ≤ m ∧ m ≤ 36 := ⟨hI.2.1, hI.2.2.1⟩
            refine j_iload_n (pc := 41) dX1_walkFrom_41 rfl ?_
            refine j_iload_n (pc := 42) dX1_walkFrom_42 rfl ?_
            refine j_icmp_ge (pc := 43) (tgt := 139) dX1_walkFrom_43 (by decide) (by omega) (by omega) (fun c_43 => ?_) (fun c_43 => ?_)
            · refine j_vret (pc := 139) rfl (hQ _ ?_) dX1_walkFrom_139
              have e9 := sFinds_of he (by omega) (by omega)
              exact ⟨by rw [← e9]; exact hg2, by rw [← e9]; exact hI.1⟩
            · refine j_iconst (pc := 46) dX1_walkFrom_46 rfl ?_
              refine j_istore (pc := 47) dX1_walkFrom_47 (by decide) (lo' := [some (.ref o), some (IV c), some (IV m), some (IV (a : Int)), some (IV 0), none]) rfl ?_
              have hl_49 : ∀ (fu : Nat) (n9 : Nat) (g3 : AL2) (u : MM) (w : Int), 36 - n9 < fu → n9 ≤ 36 → sFs s m a n9 = (u, w) → BI u w → m ≤ w → Rel K g3 o ad u → J Γ A (Rep2 Γ A K) l RX1 "walkFrom" cX1_walkFrom 6 none [] 3 0 0 QP X0 0 0 g3 49 [some (.ref o), some (IV c), some (IV w), some (IV (a : Int)), some (IV (n9 : Int)), none] [] := by
                intro fu
                induction fu with
                | zero => intro n9 g3 u w hm; exact absurd hm (Nat.not_lt_zero _)
                | succ fu ih_49 =>
                  intro n9 g3 u w hm hn he2 hJ hw hg3
                  have hw36 : 1 ≤ w ∧ w ≤ 36 := ⟨hJ.2.1, hJ.2.2.1⟩
                  have hra := hJ.2.2.2.2 a (by omega)
                  refine j_iload (pc := 49) dX1_walkFrom_49 rfl ?_
                  refine j_bipush (pc := 51) (a := 36) dX1_walkFrom_51 (by decide) ?_
                  refine j_icmp_ge (pc := 53) (tgt := 133) dX1_walkFrom_53 (by decide) (by omega) (by decide) (fun c_53 => ?_) (fun c_53 => ?_)
                  · have e36 : n9 = 36 := by omega
                    rw [e36] at he2
                    refine j_iinc (pc := 133) dX1_walkFrom_133 rfl (by decide) (lo' := [some (.ref o), some (IV c), some (IV w), some (IV ((a : Int) + 1)), some (IV (n9 : Int)), none]) rfl ?_
                    refine j_goto (pc := 136) (tgt := 41) dX1_walkFrom_136 (by decide) ?_
                    refine j_sub (lo' := [some (.ref o), some (IV c), some (IV w), some (IV ((a : Int) + 1)), none, none]) ⟨Or.inr rfl, Or.inr rfl, Or.inr rfl, Or.inr rfl, Or.inl rfl, Or.inl rfl, trivial⟩ ?_
                    exact ih_41 (a + 1) g3 u w (by omega) (sFo_succ he c_43 he2) hJ (by omega) hg3
                  · refine j_aload_n (pc := 56) dX1_walkFrom_56 rfl ?_
                    refine j2_get fa_X1_30_X1 (show g3 (o) = some (pO 0 [.ref (ad 1 0 0), .ref (ad 2 0 0), .ref (ad 3 0 0), .ref (ad 4 0 0), va_rf (if u.1 14 = 0 then none else some (ad 12 0 0)), IV (u.1 0), .ref (ad 5 0 0), .ref (ad 6 0 0)]) from hg3.top) rfl dX1_walkFrom_57 ?_
                    refine j_iload_n (pc := 60) dX1_walkFrom_60 rfl ?_
                    refine j2_iald (i := (a : Int)) (show g3 (ad 6 0 0) = some (pA 0 36 (u.2 3)) from hg3.at 6 0 0 ⟨rfl, rfl⟩) (by show 0 ≤ (a : Int) ∧ (a : Int) < ((36 : Nat) : Int); omega) dX1_walkFrom_61 ?_
                    refine j_eqI (u.2 3 a) rfl ?_
                    have n_3 : 0 ≤ u.2 3 a ∧ u.2 3 a ≤ 35 := hJ.1.2 3 a
                    refine j_iload (pc := 62) dX1_walkFrom_62 rfl ?_
                    refine j_callS (pc := 64) (c_street g3 (u.2 3 a) (n9 : Int) (by omega) (by omega)) (lw_S q394 q395 q44 q396) md_yX1_street (by decide) (by decide) rfl (Nat.le_of_ble_eq_true rfl) dX1_walkFrom_64 (qI.k (fun r_64 s_64 q_64 => ?_))
                    obtain ⟨e1q_64, e2q_64⟩ := q_64
                    subst r_64
                    subst s_64
                    have rs_64 := sStreet_rng (a := (u.2 3 a)) (b := (n9 : Int)) (by omega) (by omega)
                    refine j_istore (pc := 67) dX1_walkFrom_67 (by decide) (lo' := [some (.ref o), some (IV c), some (IV w), some (IV (a : Int)), some (IV (n9 : Int)), some (IV (sStreet (u.2 3 a) (n9 : Int)))]) rfl ?_
                    refine j_iload (pc := 69) dX1_walkFrom_69 rfl ?_
                    refine j_iconst (pc := 71) dX1_walkFrom_71 rfl ?_
                    refine j_icmp_eq (pc := 72) (tgt := 127) dX1_walkFrom_72 (by decide) (by omega) (by decide) (fun c_72 => ?_) (fun c_72 => ?_)
                    · refine j_iinc (pc := 127) dX1_walkFrom_127 rfl (by decide) (lo' := [some (.ref o), some (IV c), some (IV w), some (IV (a : Int)), some (IV ((n9 : Int) + 1)), some (IV (sStreet (u.2 3 a) (n9 : Int)))]) rfl ?_
                      refine j_goto (pc := 130) (tgt := 49) dX1_walkFrom_130 (by decide) ?_
                      refine j_sub (lo' := [some (.ref o), some (IV c), some (IV w), some (IV (a : Int)), some (IV ((n9 : Int) + 1)), none]) ⟨Or.inr rfl, Or.inr rfl, Or.inr rfl, Or.inr rfl, Or.inr rfl, Or.inl rfl, trivial⟩ ?_
                      exact ih_49 (n9 + 1) g3 u w (by omega) (by omega) (sFs_skip he2 (by omega)) hJ (by omega) hg3
                    · refine j_aload_n (pc := 75) dX1_walkFrom_75 rfl ?_
                      refine j2_get fa_X1_9_X1 (show g3 (o) = some (pO 0 [.ref (ad 1 0 0), .ref (ad 2 0 0), .ref (ad 3 0 0), .ref (ad 4 0 0), va_rf (if u.1 14 = 0 then none else some (ad 12 0 0)), IV (u.1 0), .ref (ad 5 0 0), .ref (ad 6 0 0)]) from hg3.top) rfl dX1_walkFrom_76 ?_
                      refine j_iload (pc := 79) dX1_walkFrom_79 rfl ?_
                      refine j2_zald (i := sStreet (u.2 3 a) (n9 : Int)) (show g3 (ad 1 0 0) = some (pA 1 72 (u.2 1)) from hg3.at 1 0 0 ⟨rfl, rfl⟩) (by show 0 ≤ sStreet (u.2 3 a) (n9 : Int) ∧ sStreet (u.2 3 a) (n9 : Int) < ((72 : Nat) : Int); omega) dX1_walkFrom_81 ?_
                      have n_4 : 0 ≤ u.2 1 (sStreet (u.2 3 a) (n9 : Int)).toNat ∧ u.2 1 (sStreet (u.2 3 a) (n9 : Int)).toNat ≤ 1 := hJ.1.2 1 ((sStreet (u.2 3 a) (n9 : Int)).toNat)
                      refine j_if_ne (pc := 82) (tgt := 127) dX1_walkFrom_82 (by decide) (by omega) (fun c_82 => ?_) (fun c_82 => ?_)
                      · refine j_iinc (pc := 127) dX1_walkFrom_127 rfl (by decide) (lo' := [some (.ref o), some (IV c), some (IV w), some (IV (a : Int)), some (IV ((n9 : Int) + 1)), some (IV (sStreet (u.2 3 a) (n9 : Int)))]) rfl ?_
                        refine j_goto (pc := 130) (tgt := 49) dX1_walkFrom_130 (by decide) ?_
                        refine j_sub (lo' := [some (.ref o), some (IV c), some (IV w), some (IV (a : Int)), some (IV ((n9 : Int) + 1)), none]) ⟨Or.inr rfl, Or.inr rfl, Or.inr rfl, Or.inr rfl, Or.inr rfl, Or.inl rfl, trivial⟩ ?_
                        exact ih_49 (n9 + 1) g3 u w (by omega) (by omega) (sFs_skip he2 (by omega)) hJ (by omega) hg3
                      · refine j_aload_n (pc := 85) dX1_walkFrom_85 rfl ?_
                        refine j2_get fa_X1_27_X1 (show g3 (o) = some (pO 0 [.ref (ad 1 0 0), .ref (ad 2 0 0), .ref (ad 3 0 0), .ref (ad 4 0 0), va_rf (if u.1 14 = 0 then none else some (ad 12 0 0)), IV (u.1 0), .ref (ad 5 0 0), .ref (ad 6 0 0)]) from hg3.top) rfl dX1_walkFrom_86 ?_
                        refine j_iload (pc := 89) dX1_walkFrom_89 rfl ?_
                        refine j2_iald (i := (n9 : Int)) (show g3 (ad 5 0 0) = some (pA 0 36 (u.2 2)) from hg3.at 5 0 0 ⟨rfl, rfl⟩) (by show 0 ≤ (n9 : Int) ∧ (n9 : Int) < ((36 : Nat) : Int); omega) dX1_walkFrom_91 ?_
                        refine j_eqI (u.2 2 n9) rfl ?_
                        have n_5 : (-1) ≤ u.2 2 n9 ∧ u.2 2 n9 ≤ 36 := hJ.1.2 2 n9
                        refine j_iconst (pc := 92) dX1_walkFrom_92 rfl ?_
                        refine j_icmp_ne (pc := 93) (tgt := 127) dX1_walkFrom_93 (by decide) (by omega) (by decide) (fun c_93 => ?_) (fun c_93 => ?_)
                        · refine j_iinc (pc := 127) dX1_walkFrom_127 rfl (by decide) (lo' := [some (.ref o), some (IV c), some (IV w), some (IV (a : Int)), some (IV ((n9 : Int) + 1)), some (IV (sStreet (u.2 3 a) (n9 : Int)))]) rfl ?_
                          refine j_goto (pc := 130) (tgt := 49) dX1_walkFrom_130 (by decide) ?_
                          refine j_sub (lo' := [some (.ref o), some (IV c), some (IV w), some (IV (a : Int)), some (IV ((n9 : Int) + 1)), none]) ⟨Or.inr rfl, Or.inr rfl, Or.inr rfl, Or.inr rfl, Or.inr rfl, Or.inl rfl, trivial⟩ ?_
                          exact ih_49 (n9 + 1) g3 u w (by omega) (by omega) (sFs_skip he2 (by omega)) hJ (by omega) hg3
                        · have hw35 := hJ.far_lt (n := n9) (by omega) c_93
                          refine j_aload_n (pc := 96) dX1_walkFrom_96 rfl ?_
                          refine j2_get fa_X1_27_X1 (show g3 (o) = some (pO 0 [.ref (ad 1 0 0), .ref (ad 2 0 0), .ref (ad 3 0 0), .ref (ad 4 0 0), va_rf (if u.1 14 = 0 then none else some (ad 12 0 0)), IV (u.1 0), .ref (ad 5 0 0), .ref (ad 6 0 0)]) from hg3.top) rfl dX1_walkFrom_97 ?_
                          refine j_iload (pc := 100) dX1_walkFrom_100 rfl ?_
                          refine j_aload_n (pc := 102) dX1_walkFrom_102 rfl ?_
                          refine j2_get fa_X1_27_X1 (show g3 (o) = some (pO 0 [.ref (ad 1 0 0), .ref (ad 2 0 0), .ref (ad 3 0 0), .ref (ad 4 0 0), va_rf (if u.1 14 = 0 then none else some (ad 12 0 0)), IV (u.1 0), .ref (ad 5 0 0), .ref (ad 6 0 0)]) from hg3.top) rfl dX1_walkFrom_103 ?_
                          refine j_aload_n (pc := 106) dX1_walkFrom_106 rfl ?_
                          refine j2_get fa_X1_30_X1 (show g3 (o) = some (pO 0 [.ref (ad 1 0 0), .ref (ad 2 0 0), .ref (ad 3 0 0), .ref (ad 4 0 0), va_rf (if u.1 14 = 0 then none else some (ad 12 0 0)), IV (u.1 0), .ref (ad 5 0 0), .ref (ad 6 0 0)]) from hg3.top) rfl dX1_walkFrom_107 ?_
                          refine j_iload_n (pc := 110) dX1_walkFrom_110 rfl ?_
                          refine j2_iald (i := (a : Int)) (show g3 (ad 6 0 0) = some (pA 0 36 (u.2 3)) from hg3.at 6 0 0 ⟨rfl, rfl⟩) (by show 0 ≤ (a : Int) ∧ (a : Int) < ((36 : Nat) : Int); omega) dX1_walkFrom_111 ?_
                          refine j_eqI (u.2 3 a) rfl ?_
                          refine j2_iald (i := u.2 3 a) (show g3 (ad 5 0 0) = some (pA 0 36 (u.2 2)) from hg3.at 5 0 0 ⟨rfl, rfl⟩) (by show 0 ≤ u.2 3 a ∧ u.2 3 a < ((36 : Nat) : Int); omega) dX1_walkFrom_112 ?_
                          have n_6 : (-1) ≤ u.2 2 (u.2 3 a).toNat ∧ u.2 2 (u.2 3 a).toNat ≤ 36 := hJ.1.2 2 ((u.2 3 a).toNat)
                          refine j_iconst (pc := 113) dX1_walkFrom_113 rfl ?_
                          refine j_iadd (pc := 114) dX1_walkFrom_114 ?_
                          refine j2_iast (i := (n9 : Int)) (show g3 (ad 5 0 0) = some (pA 0 36 (u.2 2)) from hg3.at 5 0 0 ⟨rfl, rfl⟩) (by show 0 ≤ (n9 : Int) ∧ (n9 : Int) < ((36 : Nat) : Int); omega) dX1_walkFrom_115 (fun h_115 e_115 => ?_)
                          have z_7 : h_115 (ad 5 0 0) = some (pA 0 36 (uA (u.2 2) n9 ((u.2 2 (u.2 3 a).toNat) + 1))) := by rw [e_115]; exact upH_self _ _ _
                          have R_8 : Rel K h_115 o ad (setA u 2 n9 ((u.2 2 (u.2 3 a).toNat) + 1)) := hg3.ways e_115
                          refine j_aload_n (pc := 116) dX1_walkFrom_116 rfl ?_
                          refine j2_get fa_X1_30_X1 (show h_115 (o) = some (pO 0 [.ref (ad 1 0 0), .ref (ad 2 0 0), .ref (ad 3 0 0), .ref (ad 4 0 0), va_rf (if u.1 14 = 0 then none else some (ad 12 0 0)), IV (u.1 0), .ref (ad 5 0 0), .ref (ad 6 0 0)]) from R_8.top) rfl dX1_walkFrom_117 ?_
                          refine j_iload_n (pc := 120) dX1_walkFrom_120 rfl ?_
                          refine j_iload (pc := 121) dX1_walkFrom_121 rfl ?_
                          refine j2_iast (i := w) (show h_115 (ad 6 0 0) = some (pA 0 36 (u.2 3)) from R_8.at 6 0 0 ⟨rfl, rfl⟩) (by show 0 ≤ w ∧ w < ((36 : Nat) : Int); omega) dX1_walkFrom_123 (fun h_123 e_123 => ?_)
                          have z_9 : h_123 (ad 6 0 0) = some (pA 0 36 (uA (u.2 3) (w).toNat (n9 : Int))) := by rw [e_123]; exact upH_self _ _ _
                          have R_10 : Rel K h_123 o ad (setA (setA u 2 n9 ((u.2 2 (u.2 3 a).toNat) + 1)) 3 (w).toNat (n9 : Int)) := R_8.reached e_123
                          refine j_iinc (pc := 124) dX1_walkFrom_124 rfl (by decide) (lo' := [some (.ref o), some (IV c), some (IV (w + 1)), some (IV (a : Int)), some (IV (n9 : Int)), some (IV (sStreet (u.2 3 a) (n9 : Int)))]) rfl ?_
                          refine j_iinc (pc := 127) dX1_walkFrom_127 rfl (by decide) (lo' := [some (.ref o), some (IV c), some (IV (w + 1)), some (IV (a : Int)), some (IV ((n9 : Int) + 1)), some (IV (sStreet (u.2 3 a) (n9 : Int)))]) rfl ?_
                          refine j_goto (pc := 130) (tgt := 49) dX1_walkFrom_130 (by decide) ?_
                          refine j_sub (lo' := [some (.ref o), some (IV c), some (IV (w + 1)), some (IV (a : Int)), some (IV ((n9 : Int) + 1)), none]) ⟨Or.inr rfl, Or.inr rfl, Or.inr rfl, Or.inr rfl, Or.inr rfl, Or.inl rfl, trivial⟩ ?_
                          exact ih_49 (n9 + 1) h_123 (setA (setA u 2 n9 ((u.2 2 (u.2 3 a).toNat) + 1)) 3 (w).toNat (n9 : Int)) (w + 1) (by omega) (by omega) (sFs_go he2 ⟨c_72, by omega, c_93⟩) (hJ.step (by omega) (by omega) c_93) (by omega) R_10
              exact hl_49 _ 0 g2 s m (Nat.lt_succ_self _) (by omega) rfl hI (by omega) hg2
        exact hl_41 _ 0 h_36 (setA (setA (sFi σ 36) 2 c.toNat 0) 3 0 c) 1 (Nat.lt_succ_self _) rfl (BI.start hB hc) (by omega) (by have h9 := R_2; rw [hs, wF_36 σ hc] at h9; exact h9)
      · refine j_aload_n (pc := 8) dX1_walkFrom_8 rfl ?_
        refine j2_get fa_X1_27_X1 (show g (o) = some (pO 0 [.ref (ad 1 0 0), .ref (ad 2 0 0), .ref (ad 3 0 0), .ref (ad 4 0 0), va_rf (if s.1 14 = 0 then none else some (ad 12 0 0)), IV (s.1 0), .ref (ad 5 0 0), .ref (ad 6 0 0)]) from hg.top) rfl dX1_walkFrom_9 ?_
        refine j_iload_n (pc := 12) dX1_walkFrom_12 rfl ?_
        refine j_iload_n (pc := 13) dX1_walkFrom_13 rfl ?_
        refine j_iload_n (pc := 14) dX1_walkFrom_14 rfl ?_
        refine j_icmp_ne (pc := 15) (tgt := 22) dX1_walkFrom_15 (by decide) (by omega) (by omega) (fun c_15 => ?_) (fun c_15 => ?_)
        · refine j_iconst (pc := 22) dX1_walkFrom_22 rfl ?_
          refine j2_iast (i := (k : Int)) (show g (ad 5 0 0) = some (pA 0 36 (s.2 2)) from hg.at 5 0 0 ⟨rfl, rfl⟩) (by show 0 ≤ (k : Int) ∧ (k : Int) < ((36 : Nat) : Int); omega) dX1_walkFrom_23 (fun h_23 e_23 => ?_)
          have z_11 : h_23 (ad 5 0 0) = some (pA 0 36 (uA (s.2 2) k (-1))) := by rw [e_23]; exact upH_self _ _ _
          have R_12 : Rel K h_23 o ad (setA s 2 k (-1)) := hg.ways e_23
          refine j_iinc (pc := 24) dX1_walkFrom_24 rfl (by decide) (lo' := [some (.ref o), some (IV c), some (IV ((k : Int) + 1)), none, none, none]) rfl ?_
          refine j_goto (pc := 27) (tgt := 2) dX1_walkFrom_27 (by decide) ?_
          exact ih_2 (k + 1) h_23 (setA s 2 k (-1)) (by omega) (by omega) (by show _ = setA (wF σ c k) 2 k (if (k : Int) = c then 0 else -1); rw [← hs, if_neg (by omega)]) R_12
        · refine j_iconst (pc := 18) dX1_walkFrom_18 rfl ?_
          refine j_goto (pc := 19) (tgt := 23) dX1_walkFrom_19 (by decide) ?_
          refine j2_iast (i := (k : Int)) (show g (ad 5 0 0) = some (pA 0 36 (s.2 2)) from hg.at 5 0 0 ⟨rfl, rfl⟩) (by show 0 ≤ (k : Int) ∧ (k : Int) < ((36 : Nat) : Int); omega) dX1_walkFrom_23 (fun h_23_1 e_23_1 => ?_)
          have z_13 : h_23_1 (ad 5 0 0) = some (pA 0 36 (uA (s.2 2) k 0)) := by rw [e_23_1]; exact upH_self _ _ _
          have R_14 : Rel K h_23_1 o ad (setA s 2 k 0) := hg.ways e_23_1
          refine j_iinc (pc := 24) dX1_walkFrom_24 rfl (by decide) (lo' := [some (.ref o), some (IV c), some (IV ((k : Int) + 1)), none, none, none]) rfl ?_
          refine j_goto (pc := 27) (tgt := 2) dX1_walkFrom_27 (by decide) ?_
          exact ih_2 (k + 1) h_23_1 (setA s 2 k 0) (by omega) (by omega) (by show _ = setA (wF σ c k) 2 k (if (k : Int) = c then 0 else -1); rw [← hs, if_pos (by omega)]) R_14
  exact hl_2 _ 0 h σ (Nat.lt_succ_self _) (by omega) rfl hR

theorem md_yX1_walkFrom : MD yX1_walkFrom 1 := by decide +kernel
set_option maxHeartbeats 4000000 in
theorem c_way {Γ : GG} {A : Nat → Prop} {K : KK} {l : Launch} (h : AL2) (hfl : l.stackTraces = false) (hke : KE Γ A K) (hIOB : TH5 Γ A "java/lang/IndexOutOfBoundsException") (hIAE : TH5 Γ A "java/lang/IllegalArgumentException") (hISE : TH5 Γ A "java/lang/IllegalStateException") (o : Nat) (ad : AD) (σ : MM) (hR : Rel K h o ad σ) (hB : Bd σ) (a : Int) (ha : RR a) (b : Int) (hb : RR b)  : Ct Γ A (Rep2 Γ A K) l yX1_way (ws_ yX1_way cX1_way 3 (some .int)) 8 2 10 [.ref o, IV a, IV b] h (qI (fun (r : Int) (h' : AL2) => t1 (isC a ∧ isC b) = 0 ∧ r = (sFinds σ a).2 2 b.toNat ∧ ∃ ad', Rel K h' o ad' (sFinds σ a))) (fun (E : String) (h' : AL2) => xE ["java/lang/IndexOutOfBoundsException"] (t1 (isC a ∧ isC b)) E ∧ ∃ ad', Rel K h' o ad' σ) := by
  refine Ct.ofJ (own := RX1) (nm := "way") (lo := [some (.ref o), some (IV a), some (IV b)]) pn_X1 rfl rfl (List.forall_mem_cons.mpr ⟨rfl, (List.forall_mem_cons.mpr ⟨rfl, (List.forall_mem_cons.mpr ⟨rfl, (fun _ h => nomatch h)⟩)⟩)⟩) (Nat.le_of_ble_eq_true rfl) rfl ?_
  have hQ : ∀ (r : Int) (h' : AL2), (t1 (isC a ∧ isC b) = 0 ∧ r = (sFinds σ a).2 2 b.toNat ∧ ∃ ad', Rel K h' o ad' (sFinds σ a)) → (qI (fun (r : Int) (h' : AL2) => t1 (isC a ∧ isC b) = 0 ∧ r = (sFinds σ a).2 2 b.toNat ∧ ∃ ad', Rel K h' o ad' (sFinds σ a))) (some (IV r)) h' := fun r h' h => ⟨r, rfl, h⟩
  generalize (qI (fun (r : Int) (h' : AL2) => t1 (isC a ∧ isC b) = 0 ∧ r = (sFinds σ a).2 2 b.toNat ∧ ∃ ad', Rel K h' o ad' (sFinds σ a))) = QP at hQ ⊢
  have hX : ∀ (E : String) (h' : AL2), (xE ["java/lang/IndexOutOfBoundsException"] (t1 (isC a ∧ isC b)) E ∧ ∃ ad', Rel K h' o ad' σ) → (fun (E : String) (h' : AL2) => xE ["java/lang/IndexOutOfBoundsException"] (t1 (isC a ∧ isC b)) E ∧ ∃ ad', Rel K h' o ad' σ) E h' := fun E h' h => h
  generalize (fun (E : String) (h' : AL2) => xE ["java/lang/IndexOutOfBoundsException"] (t1 (isC a ∧ isC b)) E ∧ ∃ ad', Rel K h' o ad' σ) = XP at hX ⊢
  refine j_iconst (pc := 0) dX1_way_0 rfl ?_
  refine j_room (cl' := 1 + 1) (sl' := 6 + 4) (by omega) (by omega) ?_
  refine j2_newa (i := 4) (N := 4) (atype := .int) hke.1 (Or.inl ⟨rfl, rfl⟩) q141 (by omega) (by omega) (by omega) dX1_way_1 (fun a_1 h_1 n_1 e_1 => ?_)
  have z_1 : h_1 a_1 = some (pA 0 4 (fun _ => 0)) := by rw [e_1]; exact upH_self _ _ _
  have fo_a_1 : ∀ k i j, live σ k i j → ad k i j ≠ a_1 := fun k i j hl => hR.fresh n_1 hl
  have R_2 : Rel K h_1 o ad σ := hR.other (fun b c hb => by rw [e_1]; exact upH_old hb n_1)
  refine j_dup (pc := 3) dX1_way_3 rfl ?_
  refine j_iconst (pc := 4) dX1_way_4 rfl ?_
  refine j_iload_n (pc := 5) dX1_way_5 rfl ?_
  refine j2_iast (i := 0) z_1 (by show 0 ≤ 0 ∧ 0 < ((4 : Nat) : Int); omega) dX1_way_6 (fun h_6 e_6 => ?_)
  have z_3 : h_6 a_1 = some (pA 0 4 (uA (fun _ => 0) 0 a)) := by rw [e_6]; exact upH_self _ _ _
  have R_4 : Rel K h_6 o ad σ := R_2.off e_6 fo_a_1
  refine j_dup (pc := 7) dX1_way_7 rfl ?_
  refine j_iconst (pc := 8) dX1_way_8 rfl ?_
  refine j_bipush (pc := 9) (a := 36) dX1_way_9 (by decide) ?_
  refine j2_iast (i := 1) z_3 (by show 0 ≤ 1 ∧ 1 < ((4 : Nat) : Int); omega) dX1_way_11 (fun h_11 e_11 => ?_)
  have z_5 : h_11 a_1 = some (pA 0 4 (uA (uA (fun _ => 0) 0 a) 1 36)) := by rw [e_11]; exact upH_self _ _ _
  have R_6 : Rel K h_11 o ad σ := R_4.off e_11 fo_a_1
  refine j_dup (pc := 12) dX1_way_12 rfl ?_
  refine j_iconst (pc := 13) dX1_way_13 rfl ?_
  refine j_iload_n (pc := 14) dX1_way_14 rfl ?_
  refine j2_iast (i := 2) z_5 (by show 0 ≤ 2 ∧ 2 < ((4 : Nat) : Int); omega) dX1_way_15 (fun h_15 e_15 => ?_)
  have z_7 : h_15 a_1 = some (pA 0 4 (uA (uA (uA (fun _ => 0) 0 a) 1 36) 2 b)) := by rw [e_15]; exact upH_self _ _ _
  have R_8 : Rel K h_15 o ad σ := R_6.off e_15 fo_a_1
  refine j_dup (pc := 16) dX1_way_16 rfl ?_
  refine j_iconst (pc := 17) dX1_way_17 rfl ?_
  refine j_bipush (pc := 18) (a := 36) dX1_way_18 (by decide) ?_
  refine j2_iast (i := 3) z_7 (by show 0 ≤ 3 ∧ 3 < ((4 : Nat) : Int); omega) dX1_way_20 (fun h_20 e_20 => ?_)
  have z_9 : h_20 a_1 = some (pA 0 4 (uA (uA (uA (uA (fun _ => 0) 0 a) 1 36) 2 b) 3 36)) := by rw [e_20]; exact upH_self _ _ _
  have R_10 : Rel K h_20 o ad σ := R_8.off e_20 fo_a_1
  refine j_room (cl' := 0 + 1) (sl' := 0 + 6) (by omega) (by omega) ?_
  refine j_callSx (pc := 21) (c_exist h_20 hfl RG.of2 hIOB a_1 2 (uA (uA (uA (uA (fun _ => 0) 0 a) 1 36) 2 b) 3 36) (rrA (rrA (rrA (rrA rr0 (by omega)) (by decide)) (by omega)) (by decide)) (by decide) z_9) (lw_S q370 q371 q44 q372) md_yX1_exist (nT _) (fun E x9 hx9 => by obtain ⟨rfl, hn9, rfl⟩ := hx9; rw [ex2] at hn9; exact hX _ _ ⟨xE_of 0 (by unfold t1; (repeat' split) <;> omega) rfl, ad, R_10⟩) (by decide) (by decide) rfl (Nat.le_of_ble_eq_true rfl) dX1_way_21 (qV.k (fun s_21 q_21 => ?_))
  obtain ⟨q_21a, q_21e⟩ := q_21
  subst s_21
  have q_21b := ex2.mp q_21a
  refine j_aload_n (pc := 24) dX1_way_24 rfl ?_
  refine j_iload_n (pc := 25) dX1_way_25 rfl ?_
  refine j_callV (pc := 26) (c_walkFrom h_20 o ad σ R_10 hB a (by omega)) (lw_V q428 q430 qs8 q44 q431) rfl md_yX1_walkFrom (RC.of2 (show h_20 (o) = some (pO 0 [.ref (ad 1 0 0), .ref (ad 2 0 0), .ref (ad 3 0 0), .ref (ad 4 0 0), va_rf (if σ.1 14 = 0 then none else some (ad 12 0 0)), IV (σ.1 0), .ref (ad 5 0 0), .ref (ad 6 0 0)]) from R_10.top) rfl) (by decide) (by decide) rfl (Nat.le_of_ble_eq_true rfl) dX1_way_26 (qV.k (fun s_26 q_26 => ?_))
  refine j_aload_n (pc := 29) dX1_way_29 rfl ?_
  refine j2_get fa_X1_27_X1 (show s_26 (o) = some (pO 0 [.ref (ad 1 0 0), .ref (ad 2 0 0), .ref (ad 3 0 0), .ref (ad 4 0 0), va_rf (if (sFinds σ a).1 14 = 0 then none else some (ad 12 0 0)), IV ((sFinds σ a).1 0), .ref (ad 5 0 0), .ref (ad 6 0 0)]) from q_26.1.top) rfl dX1_way_30 ?_
  refine j_iload_n (pc := 33) dX1_way_33 rfl ?_
  refine j2_iald (i := b) (show s_26 (ad 5 0 0) = some (pA 0 36 ((sFinds σ a).2 2)) from q_26.1.at 5 0 0 ⟨rfl, rfl⟩) (by show 0 ≤ b ∧ b < ((36 : Nat) : Int); omega) dX1_way_34 ?_
  refine j_iret (pc := 35) rfl (hQ _ _ ?_) dX1_way_35
  exact ⟨by unfold t1; (repeat' split) <;> omega, rfl, ad, q_26.1⟩

