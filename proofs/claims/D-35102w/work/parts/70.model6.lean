set_option maxRecDepth 100000
theorem nd_new {α : Type} {h h' : Nat → Option α} {L : List Nat} {a : Nat} {c : α} (nd : L.Nodup ∧ ∀ b ∈ L, h b ≠ none) (hn : h a = none) (he : h' = upH h a c) : (a :: L).Nodup ∧ ∀ b ∈ a :: L, h' b ≠ none := by
  refine ⟨List.nodup_cons.mpr ⟨fun z => nd.2 a z hn, nd.1⟩, fun b hb => ?_⟩
  rw [he]
  rcases List.mem_cons.mp hb with e | e
  · rw [e, upH_self]; exact fun z => by cases z
  · by_cases g : b = a
    · rw [g, upH_self]; exact fun z => by cases z
    · rw [upH_ne g]; exact nd.2 b e
theorem nd_put {α : Type} {h h' : Nat → Option α} {L : List Nat} {a : Nat} {c : α} (nd : L.Nodup ∧ ∀ b ∈ L, h b ≠ none) (he : h' = upH h a c) : L.Nodup ∧ ∀ b ∈ L, h' b ≠ none := by
  refine ⟨nd.1, fun b hb => ?_⟩
  rw [he]
  by_cases g : b = a
  · rw [g, upH_self]; exact fun z => by cases z
  · rw [upH_ne g]; exact nd.2 b hb
/-- the place of an array field in the list of those made -/
def posM : Nat → Nat := fun k => match k with
  | 1 => 29
  | 2 => 28
  | 3 => 27
  | 4 => 26
  | 5 => 25
  | 7 => 24
  | 8 => 23
  | 10 => 22
  | 11 => 21
  | 12 => 20
  | 18 => 19
  | 20 => 18
  | 21 => 17
  | 22 => 16
  | 23 => 15
  | 24 => 14
  | 25 => 13
  | 27 => 12
  | 28 => 11
  | 29 => 10
  | 30 => 9
  | 31 => 8
  | 32 => 7
  | 33 => 6
  | 34 => 5
  | 35 => 4
  | 36 => 3
  | 39 => 2
  | 40 => 1
  | 41 => 0
  | _ => 30
theorem posM_lt : ∀ k : Nat, k < 44 → mN k ≠ 0 → posM k < 30 := by decide
theorem posM_inj : ∀ j : Nat, j < 44 → ∀ k : Nat, k < 44 → mN j ≠ 0 → mN k ≠ 0 → posM j = posM k → j = k := by decide
theorem mN_mem : ∀ k : Nat, k < 44 → mN k ≠ 0 → k ∈ [1, 2, 3, 4, 5, 7, 8, 10, 11, 12, 18, 20, 21, 22, 23, 24, 25, 27, 28, 29, 30, 31, 32, 33, 34, 35, 36, 39, 40, 41] := by decide
abbrev adL (L : List Nat) (k : Nat) : Nat := L.getD (posM k) 0
theorem adL_inj {L : List Nat} (hl : L.length = 30) (nd : L.Nodup) {j k : Nat} (hj : j < 44) (hk : k < 44) (nj : mN j ≠ 0) (nk : mN k ≠ 0) (e : adL L j = adL L k) : j = k := by
  have p1 := posM_lt j hj nj
  have p2 := posM_lt k hk nk
  unfold adL at e
  rw [List.getD_eq_getElem?_getD, List.getD_eq_getElem?_getD, List.getElem?_eq_getElem (by omega), List.getElem?_eq_getElem (by omega)] at e
  refine posM_inj j hj k hk nj nk ?_
  rcases Nat.lt_trichotomy (posM j) (posM k) with z | z | z
  · exact absurd e (List.pairwise_iff_getElem.mp nd _ _ (by omega) (by omega) z)
  · exact z
  · exact absurd e.symm (List.pairwise_iff_getElem.mp nd _ _ (by omega) (by omega) z)
theorem adL_mem {L : List Nat} (hl : L.length = 30) {k : Nat} (hk : k < 44) (nk : mN k ≠ 0) : adL L k ∈ L := by
  have p1 := posM_lt k hk nk
  unfold adL
  rw [List.getD_eq_getElem?_getD, List.getElem?_eq_getElem (by omega)]
  exact List.getElem_mem _
/-- the reference's cells, as a picture -/
noncomputable def hM (o : Nat) (ad : Nat → Nat) (σ : MM) : AH := fun a => if a = o then some (aO 1 (mfs ad σ.1)) else by
  classical exact if q : ∃ k : Nat, k < 44 ∧ mN k ≠ 0 ∧ ad k = a then some (aA (mT (Classical.choose q)) (mN (Classical.choose q)) (σ.2 (Classical.choose q))) else none
theorem Rep1.ofM {Γ : GG} {A : Nat → Prop} {o : Nat} {ad : Nat → Nat} {σ : MM} {H : Heap} (hA : ∀ q, AM o ad q → A q) (hR : RepM Γ o ad σ H) : Rep1 Γ A (hM o ad σ) H := by
  intro a c ha
  unfold hM at ha
  by_cases e : a = o
  · rw [if_pos e] at ha
    cases ha
    exact ⟨hA a (Or.inl e), by rw [e]; exact hR.1⟩
  · rw [if_neg e] at ha
    by_cases q : ∃ k : Nat, k < 44 ∧ mN k ≠ 0 ∧ ad k = a
    · rw [dif_pos q] at ha
      cases ha
      obtain ⟨q1, q2, q3⟩ := Classical.choose_spec q
      exact ⟨hA a (Or.inr ⟨_, q1, q2, q3.symm⟩), by have h9 := hR.2.1 _ q1 q2; rw [q3] at h9; exact h9⟩
    · rw [dif_neg q] at ha
      cases ha
theorem RepM.of1 {Γ : GG} {A : Nat → Prop} {h : AH} {o : Nat} {ad : Nat → Nat} {σ : MM} {H : Heap} (hR : Rep1 Γ A h H) (ho : h o = some (aO 1 (mfs ad σ.1))) (ha : ∀ k : Nat, k < 44 → mN k ≠ 0 → h (ad k) = some (aA (mT k) (mN k) (σ.2 k))) (hn : ∀ k : Nat, k < 44 → mN k ≠ 0 → ad k ≠ o) (hi : ∀ j k : Nat, j < 44 → k < 44 → mN j ≠ 0 → mN k ≠ 0 → ad j = ad k → j = k) : RepM Γ o ad σ H :=
  ⟨(hR o _ ho).2, fun k hk nk => (hR _ _ (ha k hk nk)).2, hn, hi⟩

theorem bd00 : Bd s00 := ⟨fun k => ⟨Int.le_refl _, by show (0 : Int) ≤ nHi k; unfold nHi; split <;> decide⟩, fun k i => ⟨by show bLo k ≤ 0; unfold bLo; split <;> decide, by show 0 ≤ bHi k; unfold bHi; split <;> decide⟩⟩
theorem m_clears_1 {Γ : GG} {A : Nat → Prop} {l : Launch} (h : AH) (o : Nat) (ad : Nat → Nat) (ho : h o = some (aO 1 (mfs ad s00.1))) (ha : ∀ k : Nat, k < 44 → mN k ≠ 0 → h (ad k) = some (aA (mT k) (mN k) (s00.2 k))) (hn : ∀ k : Nat, k < 44 → mN k ≠ 0 → ad k ≠ o) (hi : ∀ j k : Nat, j < 44 → k < 44 → mN j ≠ 0 → mN k ≠ 0 → ad j = ad k → j = k) :
    Ct Γ A (Rep1 Γ A) l yX2_clears (ws_ yX2_clears cX2_clears 2 none) 1 0 0 [.ref o] h (qV (fun h' => h' = hM o ad (sClears s00))) X0 := by
  by_cases hA : ∀ q, AM o ad q → A q
  · refine Ct.up (Γ := Γ) (A := AM o ad) (Rep := RepM Γ o ad) hA fun s H hK hR => ?_
    have hM0 := RepM.of1 hR ho ha hn hi
    have hC : EC Γ.2.2 (AM o ad) := ⟨hK.2.2.1, fun s H H1 z1 z2 z3 => hK.2.2.2 s H H1 z1 (fun q h1 h2 => z2 q h1 (fun w => h2 (hA q w))) z3⟩
    refine ⟨⟨hK.1, hK.2.1, hC⟩, s00, _, _, hM0, m_clears s00 bd00, ?_, fun E z q => q.elim⟩
    rintro v z ⟨rfl, e9⟩ H1 z1 z2 z3
    obtain rfl := e9
    exact ⟨hM o ad (sClears s00), ⟨rfl, rfl⟩, Rep1.ofM hA z3⟩
  · refine Ct.lift (Rep := Rep1 Γ A) fun s H hK hR => ?_
    refine absurd (fun q hq => ?_) hA
    rcases hq with e | ⟨k, hk, nk, e⟩
    · rw [e]; exact (hR o _ ho).1
    · rw [e]; exact (hR _ _ (ha k hk nk)).1

theorem fp_X2_7_X2 : FP RX2 7 1 1 (.array .boolean) true := ⟨RX2, TX2, 44, "BallotFoundryModel", tyX2, rfl, in_X2, by decide, q1389, Or.inl rfl, tyX2_ok, nmX2, rfl, rfl, fun _ => rfl⟩
theorem fp_X2_13_X2 : FP RX2 13 1 2 (.array .int) true := ⟨RX2, TX2, 44, "BallotFoundryModel", tyX2, rfl, in_X2, by decide, q1390, Or.inl rfl, tyX2_ok, nmX2, rfl, rfl, fun _ => rfl⟩
theorem fp_X2_17_X2 : FP RX2 17 1 3 (.array .int) true := ⟨RX2, TX2, 44, "BallotFoundryModel", tyX2, rfl, in_X2, by decide, q1391, Or.inl rfl, tyX2_ok, nmX2, rfl, rfl, fun _ => rfl⟩
theorem fp_X2_20_X2 : FP RX2 20 1 4 (.array .int) true := ⟨RX2, TX2, 44, "BallotFoundryModel", tyX2, rfl, in_X2, by decide, q1392, Or.inl rfl, tyX2_ok, nmX2, rfl, rfl, fun _ => rfl⟩
theorem fp_X2_23_X2 : FP RX2 23 1 5 (.array .int) true := ⟨RX2, TX2, 44, "BallotFoundryModel", tyX2, rfl, in_X2, by decide, q1393, Or.inl rfl, tyX2_ok, nmX2, rfl, rfl, fun _ => rfl⟩
theorem fp_X2_26_X2 : FP RX2 26 1 7 (.array .int) true := ⟨RX2, TX2, 44, "BallotFoundryModel", tyX2, rfl, in_X2, by decide, q1395, Or.inl rfl, tyX2_ok, nmX2, rfl, rfl, fun _ => rfl⟩
theorem fp_X2_29_X2 : FP RX2 29 1 8 (.array .boolean) true := ⟨RX2, TX2, 44, "BallotFoundryModel", tyX2, rfl, in_X2, by decide, q1396, Or.inl rfl, tyX2_ok, nmX2, rfl, rfl, fun _ => rfl⟩
theorem fp_X2_32_X2 : FP RX2 32 1 10 (.array .int) true := ⟨RX2, TX2, 44, "BallotFoundryModel", tyX2, rfl, in_X2, by decide, q1398, Or.inl rfl, tyX2_ok, nmX2, rfl, rfl, fun _ => rfl⟩
theorem fp_X2_35_X2 : FP RX2 35 1 11 (.array .int) true := ⟨RX2, TX2, 44, "BallotFoundryModel", tyX2, rfl, in_X2, by decide, q1399, Or.inl rfl, tyX2_ok, nmX2, rfl, rfl, fun _ => rfl⟩
theorem fp_X2_38_X2 : FP RX2 38 1 12 (.array .int) true := ⟨RX2, TX2, 44, "BallotFoundryModel", tyX2, rfl, in_X2, by decide, q1400, Or.inl rfl, tyX2_ok, nmX2, rfl, rfl, fun _ => rfl⟩
theorem fp_X2_45_X2 : FP RX2 45 1 18 (.array .int) true := ⟨RX2, TX2, 44, "BallotFoundryModel", tyX2, rfl, in_X2, by decide, q1406, Or.inl rfl, tyX2_ok, nmX2, rfl, rfl, fun _ => rfl⟩
theorem fp_X2_48_X2 : FP RX2 48 1 20 (.array .int) true := ⟨RX2, TX2, 44, "BallotFoundryModel", tyX2, rfl, in_X2, by decide, q1408, Or.inl rfl, tyX2_ok, nmX2, rfl, rfl, fun _ => rfl⟩
theorem fp_X2_51_X2 : FP RX2 51 1 21 (.array .int) true := ⟨RX2, TX2, 44, "BallotFoundryModel", tyX2, rfl, in_X2, by decide, q1409, Or.inl rfl, tyX2_ok, nmX2, rfl, rfl, fun _ => rfl⟩
theorem fp_X2_54_X2 : FP RX2 54 1 22 (.array .boolean) true := ⟨RX2, TX2, 44, "BallotFoundryModel", tyX2, rfl, in_X2, by decide, q1410, Or.inl rfl, tyX2_ok, nmX2, rfl, rfl, fun _ => rfl⟩
theorem fp_X2_57_X2 : FP RX2 57 1 23 (.array .int) true := ⟨RX2, TX2, 44, "BallotFoundryModel", tyX2, rfl, in_X2, by decide, q1411, Or.inl rfl, tyX2_ok, nmX2, rfl, rfl, fun _ => rfl⟩
theorem fp_X2_60_X2 : FP RX2 60 1 24 (.array .int) true := ⟨RX2, TX2, 44, "BallotFoundryModel", tyX2, rfl, in_X2, by decide, q1412, Or.inl rfl, tyX2_ok, nmX2, rfl, rfl, fun _ => rfl⟩
theorem fp_X2_63_X2 : FP RX2 63 1 25 (.array .int) true := ⟨RX2, TX2, 44, "BallotFoundryModel", tyX2, rfl, in_X2, by decide, q1413, Or.inl rfl, tyX2_ok, nmX2, rfl, rfl, fun _ => rfl⟩
theorem fp_X2_66_X2 : FP RX2 66 1 27 (.array .int) true := ⟨RX2, TX2, 44, "BallotFoundryModel", tyX2, rfl, in_X2, by decide, q1415, Or.inl rfl, tyX2_ok, nmX2, rfl, rfl, fun _ => rfl⟩
theorem fp_X2_69_X2 : FP RX2 69 1 28 (.array .int) true := ⟨RX2, TX2, 44, "BallotFoundryModel", tyX2, rfl, in_X2, by decide, q1416, Or.inl rfl, tyX2_ok, nmX2, rfl, rfl, fun _ => rfl⟩
theorem fp_X2_72_X2 : FP RX2 72 1 29 (.array .int) true := ⟨RX2, TX2, 44, "BallotFoundryModel", tyX2, rfl, in_X2, by decide, q1417, Or.inl rfl, tyX2_ok, nmX2, rfl, rfl, fun _ => rfl⟩
theorem fp_X2_75_X2 : FP RX2 75 1 30 (.array .int) true := ⟨RX2, TX2, 44, "BallotFoundryModel", tyX2, rfl, in_X2, by decide, q1418, Or.inl rfl, tyX2_ok, nmX2, rfl, rfl, fun _ => rfl⟩
theorem fp_X2_78_X2 : FP RX2 78 1 31 (.array .int) true := ⟨RX2, TX2, 44, "BallotFoundryModel", tyX2, rfl, in_X2, by decide, q1419, Or.inl rfl, tyX2_ok, nmX2, rfl, rfl, fun _ => rfl⟩
theorem fp_X2_81_X2 : FP RX2 81 1 32 (.array .int) true := ⟨RX2, TX2, 44, "BallotFoundryModel", tyX2, rfl, in_X2, by decide, q1420, Or.inl rfl, tyX2_ok, nmX2, rfl, rfl, fun _ => rfl⟩
theorem fp_X2_84_X2 : FP RX2 84 1 33 (.array .int) true := ⟨RX2, TX2, 44, "BallotFoundryModel", tyX2, rfl, in_X2, by decide, q1421, Or.inl rfl, tyX2_ok, nmX2, rfl, rfl, fun _ => rfl⟩
theorem fp_X2_87_X2 : FP RX2 87 1 34 (.array .int) true := ⟨RX2, TX2, 44, "BallotFoundryModel", tyX2, rfl, in_X2, by decide, q1422, Or.inl rfl, tyX2_ok, nmX2, rfl, rfl, fun _ => rfl⟩
theorem fp_X2_90_X2 : FP RX2 90 1 35 (.array .int) true := ⟨RX2, TX2, 44, "BallotFoundryModel", tyX2, rfl, in_X2, by decide, q1423, Or.inl rfl, tyX2_ok, nmX2, rfl, rfl, fun _ => rfl⟩
theorem fp_X2_93_X2 : FP RX2 93 1 36 (.array .int) true := ⟨RX2, TX2, 44, "BallotFoundryModel", tyX2, rfl, in_X2, by decide, q1424, Or.inl rfl, tyX2_ok, nmX2, rfl, rfl, fun _ => rfl⟩
theorem fp_X2_96_X2 : FP RX2 96 1 39 (.array .int) true := ⟨RX2, TX2, 44, "BallotFoundryModel", tyX2, rfl, in_X2, by decide, q1427, Or.inl rfl, tyX2_ok, nmX2, rfl, rfl, fun _ => rfl⟩
theorem fp_X2_99_X2 : FP RX2 99 1 40 (.array .int) true := ⟨RX2, TX2, 44, "BallotFoundryModel", tyX2, rfl, in_X2, by decide, q1428, Or.inl rfl, tyX2_ok, nmX2, rfl, rfl, fun _ => rfl⟩
theorem fp_X2_102_X2 : FP RX2 102 1 41 (.array .int) true := ⟨RX2, TX2, 44, "BallotFoundryModel", tyX2, rfl, in_X2, by decide, q1429, Or.inl rfl, tyX2_ok, nmX2, rfl, rfl, fun _ => rfl⟩
set_option maxHeartbeats 4000000 in
theorem m_init {Γ : GG} {A : Nat → Prop} {l : Launch} (h : AH) (hal : AL Γ A) (o : Nat) (hq : h o = some (aO 1 [IV 0, .null, .null, .null, .null, .null, IV 0, .null, .null, IV 0, .null, .null, .null, IV 0, IV 0, IV 0, IV 0, IV 0, .null, IV 0, .null, .null, .null, .null, .null, .null, IV 0, .null, .null, .null, .null, .null, .null, .null, .null, .null, .null, IV 0, IV 0, .null, .null, .null, IV 0, IV 0])) : Ct Γ A (Rep1 Γ A) l yX2_init (ws_ yX2_init cX2_init 1 none) 3 30 5483 [.ref o] h (qV (fun (h' : AH) => ∃ ad, h' = hM o ad sStart ∧ (∀ k : Nat, k < 44 → mN k ≠ 0 → ad k ≠ o) ∧ ∀ j k : Nat, j < 44 → k < 44 → mN j ≠ 0 → mN k ≠ 0 → ad j = ad k → j = k)) X0 := by
  refine Ct.ofJ (own := RX2) (nm := "<init>") (lo := [some (.ref o)]) pn_X2 rfl rfl (List.forall_mem_cons.mpr ⟨rfl, (fun _ h => nomatch h)⟩) (Nat.le_of_ble_eq_true rfl) rfl ?_
  have hQ : ∀ (h' : AH), (∃ ad, h' = hM o ad sStart ∧ (∀ k : Nat, k < 44 → mN k ≠ 0 → ad k ≠ o) ∧ ∀ j k : Nat, j < 44 → k < 44 → mN j ≠ 0 → mN k ≠ 0 → ad j = ad k → j = k) → (qV (fun (h' : AH) => ∃ ad, h' = hM o ad sStart ∧ (∀ k : Nat, k < 44 → mN k ≠ 0 → ad k ≠ o) ∧ ∀ j k : Nat, j < 44 → k < 44 → mN j ≠ 0 → mN k ≠ 0 → ad j = ad k → j = k)) none h' := fun h' h => ⟨rfl, h⟩
  generalize (qV (fun (h' : AH) => ∃ ad, h' = hM o ad sStart ∧ (∀ k : Nat, k < 44 → mN k ≠ 0 → ad k ≠ o) ∧ ∀ j k : Nat, j < 44 → k < 44 → mN j ≠ 0 → mN k ≠ 0 → ad j = ad k → j = k)) = QP at hQ ⊢
  have nd0 : ([] : List Nat).Nodup ∧ ∀ b ∈ ([] : List Nat), h b ≠ none := ⟨List.nodup_nil, fun b hb => by cases hb⟩
  refine j_aload_n (pc := 0) dX2_init_0 rfl ?_
  refine j_objInit (pc := 1) q1383 q87 q88 (by decide) (Nat.le_of_ble_eq_true rfl) dX2_init_1 ?_
  refine j_aload_n (pc := 4) dX2_init_4 rfl ?_
  refine j_bipush (pc := 5) (a := 72) dX2_init_5 (by decide) ?_
  refine j_room (cl' := 29 + 1) (sl' := 5411 + 72) (by omega) (by omega) ?_
  refine j1_newa (i := 72) (N := 72) (atype := .boolean) hal (Or.inr (Or.inl ⟨rfl, rfl⟩)) q115 (by omega) (by omega) (by omega) dX2_init_7 (fun a_7 h_7 n_7 e_7 => ?_)
  have z_1 : h_7 o = some (aO 1 [IV 0, .null, .null, .null, .null, .null, IV 0, .null, .null, IV 0, .null, .null, .null, IV 0, IV 0, IV 0, IV 0, IV 0, .null, IV 0, .null, .null, .null, .null, .null, .null, IV 0, .null, .null, .null, .null, .null, .null, .null, .null, .null, .null, IV 0, IV 0, .null, .null, .null, IV 0, IV 0]) := by rw [e_7]; exact upH_old hq n_7
  have z_2 : h_7 a_7 = some (aA 1 72 (fun _ => 0)) := by rw [e_7]; exact upH_self _ _ _
  have nd_3 : [a_7].Nodup ∧ ∀ b ∈ [a_7], h_7 b ≠ none := nd_new nd0 n_7 e_7
  have no_a_7 : a_7 ≠ o := Ne.symm (fresh_ne hq n_7)
  refine j1_putF rfl fp_X2_7_X2 z_1 (Nat.le_of_ble_eq_true rfl) rfl rfl dX2_init_9 (fun h_9 e_9 => ?_)
  have z_4 : h_9 a_7 = some (aA 1 72 (fun _ => 0)) := by rw [e_9]; exact upH_k z_2 z_1 (by intro z; cases z)
  have z_5 : h_9 o = some (aO 1 [IV 0, .ref a_7, .null, .null, .null, .null, IV 0, .null, .null, IV 0, .null, .null, .null, IV 0, IV 0, IV 0, IV 0, IV 0, .null, IV 0, .null, .null, .null, .null, .null, .null, IV 0, .null, .null, .null, .null, .null, .null, .null, .null, .null, .null, IV 0, IV 0, .null, .null, .null, IV 0, IV 0]) := by rw [e_9]; exact upH_self _ _ _
  have nd_6 : [a_7].Nodup ∧ ∀ b ∈ [a_7], h_9 b ≠ none := nd_put nd_3 e_9
  refine j_aload_n (pc := 12) dX2_init_12 rfl ?_
  refine j_bipush (pc := 13) (a := 36) dX2_init_13 (by decide) ?_
  refine j_room (cl' := 28 + 1) (sl' := 5375 + 36) (by omega) (by omega) ?_
  refine j1_newa (i := 36) (N := 36) (atype := .int) hal (Or.inl ⟨rfl, rfl⟩) q141 (by omega) (by omega) (by omega) dX2_init_15 (fun a_15 h_15 n_15 e_15 => ?_)
  have z_7 : h_15 a_7 = some (aA 1 72 (fun _ => 0)) := by rw [e_15]; exact upH_old z_4 n_15
  have z_8 : h_15 o = some (aO 1 [IV 0, .ref a_7, .null, .null, .null, .null, IV 0, .null, .null, IV 0, .null, .null, .null, IV 0, IV 0, IV 0, IV 0, IV 0, .null, IV 0, .null, .null, .null, .null, .null, .null, IV 0, .null, .null, .null, .null, .null, .null, .null, .null, .null, .null, IV 0, IV 0, .null, .null, .null, IV 0, IV 0]) := by rw [e_15]; exact upH_old z_5 n_15
  have z_9 : h_15 a_15 = some (aA 0 36 (fun _ => 0)) := by rw [e_15]; exact upH_self _ _ _
  have nd_10 : [a_15, a_7].Nodup ∧ ∀ b ∈ [a_15, a_7], h_15 b ≠ none := nd_new nd_6 n_15 e_15
  have no_a_15 : a_15 ≠ o := Ne.symm (fresh_ne z_5 n_15)
  refine j1_putF rfl fp_X2_13_X2 z_8 (Nat.le_of_ble_eq_true rfl) rfl rfl dX2_init_17 (fun h_17 e_17 => ?_)
  have z_11 : h_17 a_7 = some (aA 1 72 (fun _ => 0)) := by rw [e_17]; exact upH_k z_7 z_8 (by intro z; cases z)
  have z_12 : h_17 a_15 = some (aA 0 36 (fun _ => 0)) := by rw [e_17]; exact upH_k z_9 z_8 (by intro z; cases z)
  have z_13 : h_17 o = some (aO 1 [IV 0, .ref a_7, .ref a_15, .null, .null, .null, IV 0, .null, .null, IV 0, .null, .null, .null, IV 0, IV 0, IV 0, IV 0, IV 0, .null, IV 0, .null, .null, .null, .null, .null, .null, IV 0, .null, .null, .null, .null, .null, .null, .null, .null, .null, .null, IV 0, IV 0, .null, .null, .null, IV 0, IV 0]) := by rw [e_17]; exact upH_self _ _ _
  have nd_14 : [a_15, a_7].Nodup ∧ ∀ b ∈ [a_15, a_7], h_17 b ≠ none := nd_put nd_10 e_17
  refine j_aload_n (pc := 20) dX2_init_20 rfl ?_
  refine j_bipush (pc := 21) (a := 36) dX2_init_21 (by decide) ?_
  refine j_room (cl' := 27 + 1) (sl' := 5339 + 36) (by omega) (by omega) ?_
  refine j1_newa (i := 36) (N := 36) (atype := .int) hal (Or.inl ⟨rfl, rfl⟩) q141 (by omega) (by omega) (by omega) dX2_init_23 (fun a_23 h_23 n_23 e_23 => ?_)
  have z_15 : h_23 a_7 = some (aA 1 72 (fun _ => 0)) := by rw [e_23]; exact upH_old z_11 n_23
  have z_16 : h_23 a_15 = some (aA 0 36 (fun _ => 0)) := by rw [e_23]; exact upH_old z_12 n_23
  have ne_17 : a_15 ≠ a_23 := fresh_ne z_12 n_23
  have z_18 : h_23 o = some (aO 1 [IV 0, .ref a_7, .ref a_15, .null, .null, .null, IV 0, .null, .null, IV 0, .null, .null, .null, IV 0, IV 0, IV 0, IV 0, IV 0, .null, IV 0, .null, .null, .null, .null, .null, .null, IV 0, .null, .null, .null, .null, .null, .null, .null, .null, .null, .null, IV 0, IV 0, .null, .null, .null, IV 0, IV 0]) := by rw [e_23]; exact upH_old z_13 n_23
  have z_19 : h_23 a_23 = some (aA 0 36 (fun _ => 0)) := by rw [e_23]; exact upH_self _ _ _
  have nd_20 : [a_23, a_15, a_7].Nodup ∧ ∀ b ∈ [a_23, a_15, a_7], h_23 b ≠ none := nd_new nd_14 n_23 e_23
  have no_a_23 : a_23 ≠ o := Ne.symm (fresh_ne z_13 n_23)
  refine j1_putF rfl fp_X2_17_X2 z_18 (Nat.le_of_ble_eq_true rfl) rfl rfl dX2_init_25 (fun h_25 e_25 => ?_)
  have z_21 : h_25 a_7 = some (aA 1 72 (fun _ => 0)) := by rw [e_25]; exact upH_k z_15 z_18 (by intro z; cases z)
  have z_22 : h_25 a_15 = some (aA 0 36 (fun _ => 0)) := by rw [e_25]; exact upH_k z_16 z_18 (by intro z; cases z)
  have z_23 : h_25 a_23 = some (aA 0 36 (fun _ => 0)) := by rw [e_25]; exact upH_k z_19 z_18 (by intro z; cases z)
  have z_24 : h_25 o = some (aO 1 [IV 0, .ref a_7, .ref a_15, .ref a_23, .null, .null, IV 0, .null, .null, IV 0, .null, .null, .null, IV 0, IV 0, IV 0, IV 0, IV 0, .null, IV 0, .null, .null, .null, .null, .null, .null, IV 0, .null, .null, .null, .null, .null, .null, .null, .null, .null, .null, IV 0, IV 0, .null, .null, .null, IV 0, IV 0]) := by rw [e_25]; exact upH_self _ _ _
  have nd_25 : [a_23, a_15, a_7].Nodup ∧ ∀ b ∈ [a_23, a_15, a_7], h_25 b ≠ none := nd_put nd_20 e_25
  refine j_aload_n (pc := 28) dX2_init_28 rfl ?_
  refine j_iconst (pc := 29) dX2_init_29 rfl ?_
  refine j_room (cl' := 26 + 1) (sl' := 5334 + 5) (by omega) (by omega) ?_
  refine j1_newa (i := 5) (N := 5) (atype := .int) hal (Or.inl ⟨rfl, rfl⟩) q141 (by omega) (by omega) (by omega) dX2_init_30 (fun a_30 h_30 n_30 e_30 => ?_)
  have z_26 : h_30 a_7 = some (aA 1 72 (fun _ => 0)) := by rw [e_30]; exact upH_old z_21 n_30
  have z_27 : h_30 a_15 = some (aA 0 36 (fun _ => 0)) := by rw [e_30]; exact upH_old z_22 n_30
  have ne_28 : a_15 ≠ a_30 := fresh_ne z_22 n_30
  have z_29 : h_30 a_23 = some (aA 0 36 (fun _ => 0)) := by rw [e_30]; exact upH_old z_23 n_30
  have ne_30 : a_23 ≠ a_30 := fresh_ne z_23 n_30
  have z_31 : h_30 o = some (aO 1 [IV 0, .ref a_7, .ref a_15, .ref a_23, .null, .null, IV 0, .null, .null, IV 0, .null, .null, .null, IV 0, IV 0, IV 0, IV 0, IV 0, .null, IV 0, .null, .null, .null, .null, .null, .null, IV 0, .null, .null, .null, .null, .null, .null, .null, .null, .null, .null, IV 0, IV 0, .null, .null, .null, IV 0, IV 0]) := by rw [e_30]; exact upH_old z_24 n_30
  have z_32 : h_30 a_30 = some (aA 0 5 (fun _ => 0)) := by rw [e_30]; exact upH_self _ _ _
  have nd_33 : [a_30, a_23, a_15, a_7].Nodup ∧ ∀ b ∈ [a_30, a_23, a_15, a_7], h_30 b ≠ none := nd_new nd_25 n_30 e_30
  have no_a_30 : a_30 ≠ o := Ne.symm (fresh_ne z_24 n_30)
  refine j1_putF rfl fp_X2_20_X2 z_31 (Nat.le_of_ble_eq_true rfl) rfl rfl dX2_init_32 (fun h_32 e_32 => ?_)
  have z_34 : h_32 a_7 = some (aA 1 72 (fun _ => 0)) := by rw [e_32]; exact upH_k z_26 z_31 (by intro z; cases z)
  have z_35 : h_32 a_15 = some (aA 0 36 (fun _ => 0)) := by rw [e_32]; exact upH_k z_27 z_31 (by intro z; cases z)
  have z_36 : h_32 a_23 = some (aA 0 36 (fun _ => 0)) := by rw [e_32]; exact upH_k z_29 z_31 (by intro z; cases z)
  have z_37 : h_32 a_30 = some (aA 0 5 (fun _ => 0)) := by rw [e_32]; exact upH_k z_32 z_31 (by intro z; cases z)
  have z_38 : h_32 o = some (aO 1 [IV 0, .ref a_7, .ref a_15, .ref a_23, .ref a_30, .null, IV 0, .null, .null, IV 0, .null, .null, .null, IV 0, IV 0, IV 0, IV 0, IV 0, .null, IV 0, .null, .null, .null, .null, .null, .null, IV 0, .null, .null, .null, .null, .null, .null, .null, .null, .null, .null, IV 0, IV 0, .null, .null, .null, IV 0, IV 0]) := by rw [e_32]; exact upH_self _ _ _
  have nd_39 : [a_30, a_23, a_15, a_7].Nodup ∧ ∀ b ∈ [a_30, a_23, a_15, a_7], h_32 b ≠ none := nd_put nd_33 e_32
  refine j_aload_n (pc := 35) dX2_init_35 rfl ?_
  refine j_iconst (pc := 36) dX2_init_36 rfl ?_
  refine j_room (cl' := 25 + 1) (sl' := 5329 + 5) (by omega) (by omega) ?_
  refine j1_newa (i := 5) (N := 5) (atype := .int) hal (Or.inl ⟨rfl, rfl⟩) q141 (by omega) (by omega) (by omega) dX2_init_37 (fun a_37 h_37 n_37 e_37 => ?_)
  have z_40 : h_37 a_7 = some (aA 1 72 (fun _ => 0)) := by rw [e_37]; exact upH_old z_34 n_37
  have z_41 : h_37 a_15 = some (aA 0 36 (fun _ => 0)) := by rw [e_37]; exact upH_old z_35 n_37
  have ne_42 : a_15 ≠ a_37 := fresh_ne z_35 n_37
  have z_43 : h_37 a_23 = some (aA 0 36 (fun _ => 0)) := by rw [e_37]; exact upH_old z_36 n_37
  have ne_44 : a_23 ≠ a_37 := fresh_ne z_36 n_37
  have z_45 : h_37 a_30 = some (aA 0 5 (fun _ => 0)) := by rw [e_37]; exact upH_old z_37 n_37
  have ne_46 : a_30 ≠ a_37 := fresh_ne z_37 n_37
  have z_47 : h_37 o = some (aO 1 [IV 0, .ref a_7, .ref a_15, .ref a_23, .ref a_30, .null, IV 0, .null, .null, IV 0, .null, .null, .null, IV 0, IV 0, IV 0, IV 0, IV 0, .null, IV 0, .null, .null, .null, .null, .null, .null, IV 0, .null, .null, .null, .null, .null, .null, .null, .null, .null, .null, IV 0, IV 0, .null, .null, .null, IV 0, IV 0]) := by rw [e_37]; exact upH_old z_38 n_37
  have z_48 : h_37 a_37 = some (aA 0 5 (fun _ => 0)) := by rw [e_37]; exact upH_self _ _ _
  have nd_49 : [a_37, a_30, a_23, a_15, a_7].Nodup ∧ ∀ b ∈ [a_37, a_30, a_23, a_15, a_7], h_37 b ≠ none := nd_new nd_39 n_37 e_37
  have no_a_37 : a_37 ≠ o := Ne.symm (fresh_ne z_38 n_37)
  refine j1_putF rfl fp_X2_23_X2 z_47 (Nat.le_of_ble_eq_true rfl) rfl rfl dX2_init_39 (fun h_39 e_39 => ?_)
  have z_50 : h_39 a_7 = some (aA 1 72 (fun _ => 0)) := by rw [e_39]; exact upH_k z_40 z_47 (by intro z; cases z)
  have z_51 : h_39 a_15 = some (aA 0 36 (fun _ => 0)) := by rw [e_39]; exact upH_k z_41 z_47 (by intro z; cases z)
  have z_52 : h_39 a_23 = some (aA 0 36 (fun _ => 0)) := by rw [e_39]; exact upH_k z_43 z_47 (by intro z; cases z)
  have z_53 : h_39 a_30 = some (aA 0 5 (fun _ => 0)) := by rw [e_39]; exact upH_k z_45 z_47 (by intro z; cases z)
  have z_54 : h_39 a_37 = some (aA 0 5 (fun _ => 0)) := by rw [e_39]; exact upH_k z_48 z_47 (by intro z; cases z)
  have z_55 : h_39 o = some (aO 1 [IV 0, .ref a_7, .ref a_15, .ref a_23, .ref a_30, .ref a_37, IV 0, .null, .null, IV 0, .null, .null, .null, IV 0, IV 0, IV 0, IV 0, IV 0, .null, IV 0, .null, .null, .null, .null, .null, .null, IV 0, .null, .null, .null, .null, .null, .null, .null, .null, .null, .null, IV 0, IV 0, .null, .null, .null, IV 0, IV 0]) := by rw [e_39]; exact upH_self _ _ _
  have nd_56 : [a_37, a_30, a_23, a_15, a_7].Nodup ∧ ∀ b ∈ [a_37, a_30, a_23, a_15, a_7], h_39 b ≠ none := nd_put nd_49 e_39
  refine j_aload_n (pc := 42) dX2_init_42 rfl ?_
  refine j_bipush (pc := 43) (a := 20) dX2_init_43 (by decide) ?_
  refine j_room (cl' := 24 + 1) (sl' := 5309 + 20) (by omega) (by omega) ?_
  refine j1_newa (i := 20) (N := 20) (atype := .int) hal (Or.inl ⟨rfl, rfl⟩) q141 (by omega) (by omega) (by omega) dX2_init_45 (fun a_45 h_45 n_45 e_45 => ?_)
  have z_57 : h_45 a_7 = some (aA 1 72 (fun _ => 0)) := by rw [e_45]; exact upH_old z_50 n_45
  have z_58 : h_45 a_15 = some (aA 0 36 (fun _ => 0)) := by rw [e_45]; exact upH_old z_51 n_45
  have ne_59 : a_15 ≠ a_45 := fresh_ne z_51 n_45
  have z_60 : h_45 a_23 = some (aA 0 36 (fun _ => 0)) := by rw [e_45]; exact upH_old z_52 n_45
  have ne_61 : a_23 ≠ a_45 := fresh_ne z_52 n_45
  have z_62 : h_45 a_30 = some (aA 0 5 (fun _ => 0)) := by rw [e_45]; exact upH_old z_53 n_45
  have ne_63 : a_30 ≠ a_45 := fresh_ne z_53 n_45
  have z_64 : h_45 a_37 = some (aA 0 5 (fun _ => 0)) := by rw [e_45]; exact upH_old z_54 n_45
  have ne_65 : a_37 ≠ a_45 := fresh_ne z_54 n_45
  have z_66 : h_45 o = some (aO 1 [IV 0, .ref a_7, .ref a_15, .ref a_23, .ref a_30, .ref a_37, IV 0, .null, .null, IV 0, .null, .null, .null, IV 0, IV 0, IV 0, IV 0, IV 0, .null, IV 0, .null, .null, .null, .null, .null, .null, IV 0, .null, .null, .null, .null, .null, .null, .null, .null, .null, .null, IV 0, IV 0, .null, .null, .null, IV 0, IV 0]) := by rw [e_45]; exact upH_old z_55 n_45
  have z_67 : h_45 a_45 = some (aA 0 20 (fun _ => 0)) := by rw [e_45]; exact upH_self _ _ _
  have nd_68 : [a_45, a_37, a_30, a_23, a_15, a_7].Nodup ∧ ∀ b ∈ [a_45, a_37, a_30, a_23, a_15, a_7], h_45 b ≠ none := nd_new nd_56 n_45 e_45
  have no_a_45 : a_45 ≠ o := Ne.symm (fresh_ne z_55 n_45)
  refine j1_putF rfl fp_X2_26_X2 z_66 (Nat.le_of_ble_eq_true rfl) rfl rfl dX2_init_47 (fun h_47 e_47 => ?_)
  have z_69 : h_47 a_7 = some (aA 1 72 (fun _ => 0)) := by rw [e_47]; exact upH_k z_57 z_66 (by intro z; cases z)
  have z_70 : h_47 a_15 = some (aA 0 36 (fun _ => 0)) := by rw [e_47]; exact upH_k z_58 z_66 (by intro z; cases z)
  have z_71 : h_47 a_23 = some (aA 0 36 (fun _ => 0)) := by rw [e_47]; exact upH_k z_60 z_66 (by intro z; cases z)
  have z_72 : h_47 a_30 = some (aA 0 5 (fun _ => 0)) := by rw [e_47]; exact upH_k z_62 z_66 (by intro z; cases z)
  have z_73 : h_47 a_37 = some (aA 0 5 (fun _ => 0)) := by rw [e_47]; exact upH_k z_64 z_66 (by intro z; cases z)
  have z_74 : h_47 a_45 = some (aA 0 20 (fun _ => 0)) := by rw [e_47]; exact upH_k z_67 z_66 (by intro z; cases z)
  have z_75 : h_47 o = some (aO 1 [IV 0, .ref a_7, .ref a_15, .ref a_23, .ref a_30, .ref a_37, IV 0, .ref a_45, .null, IV 0, .null, .null, .null, IV 0, IV 0, IV 0, IV 0, IV 0, .null, IV 0, .null, .null, .null, .null, .null, .null, IV 0, .null, .null, .null, .null, .null, .null, .null, .null, .null, .null, IV 0, IV 0, .null, .null, .null, IV 0, IV 0]) := by rw [e_47]; exact upH_self _ _ _
  have nd_76 : [a_45, a_37, a_30, a_23, a_15, a_7].Nodup ∧ ∀ b ∈ [a_45, a_37, a_30, a_23, a_15, a_7], h_47 b ≠ none := nd_put nd_68 e_47
  refine j_aload_n (pc := 50) dX2_init_50 rfl ?_
  refine j_bipush (pc := 51) (a := 20) dX2_init_51 (by decide) ?_
  refine j_room (cl' := 23 + 1) (sl' := 5289 + 20) (by omega) (by omega) ?_
  refine j1_newa (i := 20) (N := 20) (atype := .boolean) hal (Or.inr (Or.inl ⟨rfl, rfl⟩)) q115 (by omega) (by omega) (by omega) dX2_init_53 (fun a_53 h_53 n_53 e_53 => ?_)
  have z_77 : h_53 a_7 = some (aA 1 72 (fun _ => 0)) := by rw [e_53]; exact upH_old z_69 n_53
  have ne_78 : a_7 ≠ a_53 := fresh_ne z_69 n_53
  have z_79 : h_53 a_15 = some (aA 0 36 (fun _ => 0)) := by rw [e_53]; exact upH_old z_70 n_53
  have z_80 : h_53 a_23 = some (aA 0 36 (fun _ => 0)) := by rw [e_53]; exact upH_old z_71 n_53
  have z_81 : h_53 a_30 = some (aA 0 5 (fun _ => 0)) := by rw [e_53]; exact upH_old z_72 n_53
  have z_82 : h_53 a_37 = some (aA 0 5 (fun _ => 0)) := by rw [e_53]; exact upH_old z_73 n_53
  have z_83 : h_53 a_45 = some (aA 0 20 (fun _ => 0)) := by rw [e_53]; exact upH_old z_74 n_53
  have z_84 : h_53 o = some (aO 1 [IV 0, .ref a_7, .ref a_15, .ref a_23, .ref a_30, .ref a_37, IV 0, .ref a_45, .null, IV 0, .null, .null, .null, IV 0, IV 0, IV 0, IV 0, IV 0, .null, IV 0, .null, .null, .null, .null, .null, .null, IV 0, .null, .null, .null, .null, .null, .null, .null, .null, .null, .null, IV 0, IV 0, .null, .null, .null, IV 0, IV 0]) := by rw [e_53]; exact upH_old z_75 n_53
  have z_85 : h_53 a_53 = some (aA 1 20 (fun _ => 0)) := by rw [e_53]; exact upH_self _ _ _
  have nd_86 : [a_53, a_45, a_37, a_30, a_23, a_15, a_7].Nodup ∧ ∀ b ∈ [a_53, a_45, a_37, a_30, a_23, a_15, a_7], h_53 b ≠ none := nd_new nd_76 n_53 e_53
  have no_a_53 : a_53 ≠ o := Ne.symm (fresh_ne z_75 n_53)
  refine j1_putF rfl fp_X2_29_X2 z_84 (Nat.le_of_ble_eq_true rfl) rfl rfl dX2_init_55 (fun h_55 e_55 => ?_)
  have z_87 : h_55 a_7 = some (aA 1 72 (fun _ => 0)) := by rw [e_55]; exact upH_k z_77 z_84 (by intro z; cases z)
  have z_88 : h_55 a_15 = some (aA 0 36 (fun _ => 0)) := by rw [e_55]; exact upH_k z_79 z_84 (by intro z; cases z)
  have z_89 : h_55 a_23 = some (aA 0 36 (fun _ => 0)) := by rw [e_55]; exact upH_k z_80 z_84 (by intro z; cases z)
  have z_90 : h_55 a_30 = some (aA 0 5 (fun _ => 0)) := by rw [e_55]; exact upH_k z_81 z_84 (by intro z; cases z)
  have z_91 : h_55 a_37 = some (aA 0 5 (fun _ => 0)) := by rw [e_55]; exact upH_k z_82 z_84 (by intro z; cases z)
  have z_92 : h_55 a_45 = some (aA 0 20 (fun _ => 0)) := by rw [e_55]; exact upH_k z_83 z_84 (by intro z; cases z)
  have z_93 : h_55 a_53 = some (aA 1 20 (fun _ => 0)) := by rw [e_55]; exact upH_k z_85 z_84 (by intro z; cases z)
  have z_94 : h_55 o = some (aO 1 [IV 0, .ref a_7, .ref a_15, .ref a_23, .ref a_30, .ref a_37, IV 0, .ref a_45, .ref a_53, IV 0, .null, .null, .null, IV 0, IV 0, IV 0, IV 0, IV 0, .null, IV 0, .null, .null, .null, .null, .null, .null, IV 0, .null, .null, .null, .null, .null, .null, .null, .null, .null, .null, IV 0, IV 0, .null, .null, .null, IV 0, IV 0]) := by rw [e_55]; exact upH_self _ _ _
  have nd_95 : [a_53, a_45, a_37, a_30, a_23, a_15, a_7].Nodup ∧ ∀ b ∈ [a_53, a_45, a_37, a_30, a_23, a_15, a_7], h_55 b ≠ none := nd_put nd_86 e_55
  refine j_aload_n (pc := 58) dX2_init_58 rfl ?_
  refine j_sipush (pc := 59) (a := 540) dX2_init_59 (by decide) ?_
  refine j_room (cl' := 22 + 1) (sl' := 4749 + 540) (by omega) (by omega) ?_
  refine j1_newa (i := 540) (N := 540) (atype := .int) hal (Or.inl ⟨rfl, rfl⟩) q141 (by omega) (by omega) (by omega) dX2_init_62 (fun a_62 h_62 n_62 e_62 => ?_)
  have z_96 : h_62 a_7 = some (aA 1 72 (fun _ => 0)) := by rw [e_62]; exact upH_old z_87 n_62
  have z_97 : h_62 a_15 = some (aA 0 36 (fun _ => 0)) := by rw [e_62]; exact upH_old z_88 n_62
  have ne_98 : a_15 ≠ a_62 := fresh_ne z_88 n_62
  have z_99 : h_62 a_23 = some (aA 0 36 (fun _ => 0)) := by rw [e_62]; exact upH_old z_89 n_62
  have ne_100 : a_23 ≠ a_62 := fresh_ne z_89 n_62
  have z_101 : h_62 a_30 = some (aA 0 5 (fun _ => 0)) := by rw [e_62]; exact upH_old z_90 n_62
  have ne_102 : a_30 ≠ a_62 := fresh_ne z_90 n_62
  have z_103 : h_62 a_37 = some (aA 0 5 (fun _ => 0)) := by rw [e_62]; exact upH_old z_91 n_62
  have ne_104 : a_37 ≠ a_62 := fresh_ne z_91 n_62
  have z_105 : h_62 a_45 = some (aA 0 20 (fun _ => 0)) := by rw [e_62]; exact upH_old z_92 n_62
  have ne_106 : a_45 ≠ a_62 := fresh_ne z_92 n_62
  have z_107 : h_62 a_53 = some (aA 1 20 (fun _ => 0)) := by rw [e_62]; exact upH_old z_93 n_62
  have z_108 : h_62 o = some (aO 1 [IV 0, .ref a_7, .ref a_15, .ref a_23, .ref a_30, .ref a_37, IV 0, .ref a_45, .ref a_53, IV 0, .null, .null, .null, IV 0, IV 0, IV 0, IV 0, IV 0, .null, IV 0, .null, .null, .null, .null, .null, .null, IV 0, .null, .null, .null, .null, .null, .null, .null, .null, .null, .null, IV 0, IV 0, .null, .null, .null, IV 0, IV 0]) := by rw [e_62]; exact upH_old z_94 n_62
  have z_109 : h_62 a_62 = some (aA 0 540 (fun _ => 0)) := by rw [e_62]; exact upH_self _ _ _
  have nd_110 : [a_62, a_53, a_45, a_37, a_30, a_23, a_15, a_7].Nodup ∧ ∀ b ∈ [a_62, a_53, a_45, a_37, a_30, a_23, a_15, a_7], h_62 b ≠ none := nd_new nd_95 n_62 e_62
  have no_a_62 : a_62 ≠ o := Ne.symm (fresh_ne z_94 n_62)
  refine j1_putF rfl fp_X2_32_X2 z_108 (Nat.le_of_ble_eq_true rfl) rfl rfl dX2_init_64 (fun h_64 e_64 => ?_)
  have z_111 : h_64 a_7 = some (aA 1 72 (fun _ => 0)) := by rw [e_64]; exact upH_k z_96 z_108 (by intro z; cases z)
  have z_112 : h_64 a_15 = some (aA 0 36 (fun _ => 0)) := by rw [e_64]; exact upH_k z_97 z_108 (by intro z; cases z)
  have z_113 : h_64 a_23 = some (aA 0 36 (fun _ => 0)) := by rw [e_64]; exact upH_k z_99 z_108 (by intro z; cases z)
  have z_114 : h_64 a_30 = some (aA 0 5 (fun _ => 0)) := by rw [e_64]; exact upH_k z_101 z_108 (by intro z; cases z)
  have z_115 : h_64 a_37 = some (aA 0 5 (fun _ => 0)) := by rw [e_64]; exact upH_k z_103 z_108 (by intro z; cases z)
  have z_116 : h_64 a_45 = some (aA 0 20 (fun _ => 0)) := by rw [e_64]; exact upH_k z_105 z_108 (by intro z; cases z)
  have z_117 : h_64 a_53 = some (aA 1 20 (fun _ => 0)) := by rw [e_64]; exact upH_k z_107 z_108 (by intro z; cases z)
  have z_118 : h_64 a_62 = some (aA 0 540 (fun _ => 0)) := by rw [e_64]; exact upH_k z_109 z_108 (by intro z; cases z)
  have z_119 : h_64 o = some (aO 1 [IV 0, .ref a_7, .ref a_15, .ref a_23, .ref a_30, .ref a_37, IV 0, .ref a_45, .ref a_53, IV 0, .ref a_62, .null, .null, IV 0, IV 0, IV 0, IV 0, IV 0, .null, IV 0, .null, .null, .null, .null, .null, .null, IV 0, .null, .null, .null, .null, .null, .null, .null, .null, .null, .null, IV 0, IV 0, .null, .null, .null, IV 0, IV 0]) := by rw [e_64]; exact upH_self _ _ _
  have nd_120 : [a_62, a_53, a_45, a_37, a_30, a_23, a_15, a_7].Nodup ∧ ∀ b ∈ [a_62, a_53, a_45, a_37, a_30, a_23, a_15, a_7], h_64 b ≠ none := nd_put nd_110 e_64
  refine j_aload_n (pc := 67) dX2_init_67 rfl ?_
  refine j_sipush (pc := 68) (a := 540) dX2_init_68 (by decide) ?_
  refine j_room (cl' := 21 + 1) (sl' := 4209 + 540) (by omega) (by omega) ?_
  refine j1_newa (i := 540) (N := 540) (atype := .int) hal (Or.inl ⟨rfl, rfl⟩) q141 (by omega) (by omega) (by omega) dX2_init_71 (fun a_71 h_71 n_71 e_71 => ?_)
  have z_121 : h_71 a_7 = some (aA 1 72 (fun _ => 0)) := by rw [e_71]; exact upH_old z_111 n_71
  have z_122 : h_71 a_15 = some (aA 0 36 (fun _ => 0)) := by rw [e_71]; exact upH_old z_112 n_71
  have ne_123 : a_15 ≠ a_71 := fresh_ne z_112 n_71
  have z_124 : h_71 a_23 = some (aA 0 36 (fun _ => 0)) := by rw [e_71]; exact upH_old z_113 n_71
  have ne_125 : a_23 ≠ a_71 := fresh_ne z_113 n_71
  have z_126 : h_71 a_30 = some (aA 0 5 (fun _ => 0)) := by rw [e_71]; exact upH_old z_114 n_71
  have ne_127 : a_30 ≠ a_71 := fresh_ne z_114 n_71
  have z_128 : h_71 a_37 = some (aA 0 5 (fun _ => 0)) := by rw [e_71]; exact upH_old z_115 n_71
  have ne_129 : a_37 ≠ a_71 := fresh_ne z_115 n_71
  have z_130 : h_71 a_45 = some (aA 0 20 (fun _ => 0)) := by rw [e_71]; exact upH_old z_116 n_71
  have ne_131 : a_45 ≠ a_71 := fresh_ne z_116 n_71
  have z_132 : h_71 a_53 = some (aA 1 20 (fun _ => 0)) := by rw [e_71]; exact upH_old z_117 n_71
  have z_133 : h_71 a_62 = some (aA 0 540 (fun _ => 0)) := by rw [e_71]; exact upH_old z_118 n_71
  have ne_134 : a_62 ≠ a_71 := fresh_ne z_118 n_71
  have z_135 : h_71 o = some (aO 1 [IV 0, .ref a_7, .ref a_15, .ref a_23, .ref a_30, .ref a_37, IV 0, .ref a_45, .ref a_53, IV 0, .ref a_62, .null, .null, IV 0, IV 0, IV 0, IV 0, IV 0, .null, IV 0, .null, .null, .null, .null, .null, .null, IV 0, .null, .null, .null, .null, .null, .null, .null, .null, .null, .null, IV 0, IV 0, .null, .null, .null, IV 0, IV 0]) := by rw [e_71]; exact upH_old z_119 n_71
  have z_136 : h_71 a_71 = some (aA 0 540 (fun _ => 0)) := by rw [e_71]; exact upH_self _ _ _
  have nd_137 : [a_71, a_62, a_53, a_45, a_37, a_30, a_23, a_15, a_7].Nodup ∧ ∀ b ∈ [a_71, a_62, a_53, a_45, a_37, a_30, a_23, a_15, a_7], h_71 b ≠ none := nd_new nd_120 n_71 e_71
  have no_a_71 : a_71 ≠ o := Ne.symm (fresh_ne z_119 n_71)
  refine j1_putF rfl fp_X2_35_X2 z_135 (Nat.le_of_ble_eq_true rfl) rfl rfl dX2_init_73 (fun h_73 e_73 => ?_)
  have z_138 : h_73 a_7 = some (aA 1 72 (fun _ => 0)) := by rw [e_73]; exact upH_k z_121 z_135 (by intro z; cases z)
  have z_139 : h_73 a_15 = some (aA 0 36 (fun _ => 0)) := by rw [e_73]; exact upH_k z_122 z_135 (by intro z; cases z)
  have z_140 : h_73 a_23 = some (aA 0 36 (fun _ => 0)) := by rw [e_73]; exact upH_k z_124 z_135 (by intro z; cases z)
  have z_141 : h_73 a_30 = some (aA 0 5 (fun _ => 0)) := by rw [e_73]; exact upH_k z_126 z_135 (by intro z; cases z)
  have z_142 : h_73 a_37 = some (aA 0 5 (fun _ => 0)) := by rw [e_73]; exact upH_k z_128 z_135 (by intro z; cases z)
  have z_143 : h_73 a_45 = some (aA 0 20 (fun _ => 0)) := by rw [e_73]; exact upH_k z_130 z_135 (by intro z; cases z)
  have z_144 : h_73 a_53 = some (aA 1 20 (fun _ => 0)) := by rw [e_73]; exact upH_k z_132 z_135 (by intro z; cases z)
  have z_145 : h_73 a_62 = some (aA 0 540 (fun _ => 0)) := by rw [e_73]; exact upH_k z_133 z_135 (by intro z; cases z)
  have z_146 : h_73 a_71 = some (aA 0 540 (fun _ => 0)) := by rw [e_73]; exact upH_k z_136 z_135 (by intro z; cases z)
  have z_147 : h_73 o = some (aO 1 [IV 0, .ref a_7, .ref a_15, .ref a_23, .ref a_30, .ref a_37, IV 0, .ref a_45, .ref a_53, IV 0, .ref a_62, .ref a_71, .null, IV 0, IV 0, IV 0, IV 0, IV 0, .null, IV 0, .null, .null, .null, .null, .null, .null, IV 0, .null, .null, .null, .null, .null, .null, .null, .null, .null, .null, IV 0, IV 0, .null, .null, .null, IV 0, IV 0]) := by rw [e_73]; exact upH_self _ _ _
  have nd_148 : [a_71, a_62, a_53, a_45, a_37, a_30, a_23, a_15, a_7].Nodup ∧ ∀ b ∈ [a_71, a_62, a_53, a_45, a_37, a_30, a_23, a_15, a_7], h_73 b ≠ none := nd_put nd_137 e_73
  refine j_aload_n (pc := 76) dX2_init_76 rfl ?_
  refine j_sipush (pc := 77) (a := 540) dX2_init_77 (by decide) ?_
  refine j_room (cl' := 20 + 1) (sl' := 3669 + 540) (by omega) (by omega) ?_
  refine j1_newa (i := 540) (N := 540) (atype := .int) hal (Or.inl ⟨rfl, rfl⟩) q141 (by omega) (by omega) (by omega) dX2_init_80 (fun a_80 h_80 n_80 e_80 => ?_)
  have z_149 : h_80 a_7 = some (aA 1 72 (fun _ => 0)) := by rw [e_80]; exact upH_old z_138 n_80
  have z_150 : h_80 a_15 = some (aA 0 36 (fun _ => 0)) := by rw [e_80]; exact upH_old z_139 n_80
  have ne_151 : a_15 ≠ a_80 := fresh_ne z_139 n_80
  have z_152 : h_80 a_23 = some (aA 0 36 (fun _ => 0)) := by rw [e_80]; exact upH_old z_140 n_80
  have ne_153 : a_23 ≠ a_80 := fresh_ne z_140 n_80
  have z_154 : h_80 a_30 = some (aA 0 5 (fun _ => 0)) := by rw [e_80]; exact upH_old z_141 n_80
  have ne_155 : a_30 ≠ a_80 := fresh_ne z_141 n_80
  have z_156 : h_80 a_37 = some (aA 0 5 (fun _ => 0)) := by rw [e_80]; exact upH_old z_142 n_80
  have ne_157 : a_37 ≠ a_80 := fresh_ne z_142 n_80
  have z_158 : h_80 a_45 = some (aA 0 20 (fun _ => 0)) := by rw [e_80]; exact upH_old z_143 n_80
  have ne_159 : a_45 ≠ a_80 := fresh_ne z_143 n_80
  have z_160 : h_80 a_53 = some (aA 1 20 (fun _ => 0)) := by rw [e_80]; exact upH_old z_144 n_80
  have z_161 : h_80 a_62 = some (aA 0 540 (fun _ => 0)) := by rw [e_80]; exact upH_old z_145 n_80
  have ne_162 : a_62 ≠ a_80 := fresh_ne z_145 n_80
  have z_163 : h_80 a_71 = some (aA 0 540 (fun _ => 0)) := by rw [e_80]; exact upH_old z_146 n_80
  have ne_164 : a_71 ≠ a_80 := fresh_ne z_146 n_80
  have z_165 : h_80 o = some (aO 1 [IV 0, .ref a_7, .ref a_15, .ref a_23, .ref a_30, .ref a_37, IV 0, .ref a_45, .ref a_53, IV 0, .ref a_62, .ref a_71, .null, IV 0, IV 0, IV 0, IV 0, IV 0, .null, IV 0, .null, .null, .null, .null, .null, .null, IV 0, .null, .null, .null, .null, .null, .null, .null, .null, .null, .null, IV 0, IV 0, .null, .null, .null, IV 0, IV 0]) := by rw [e_80]; exact upH_old z_147 n_80
  have z_166 : h_80 a_80 = some (aA 0 540 (fun _ => 0)) := by rw [e_80]; exact upH_self _ _ _
  have nd_167 : [a_80, a_71, a_62, a_53, a_45, a_37, a_30, a_23, a_15, a_7].Nodup ∧ ∀ b ∈ [a_80, a_71, a_62, a_53, a_45, a_37, a_30, a_23, a_15, a_7], h_80 b ≠ none := nd_new nd_148 n_80 e_80
  have no_a_80 : a_80 ≠ o := Ne.symm (fresh_ne z_147 n_80)
  refine j1_putF rfl fp_X2_38_X2 z_165 (Nat.le_of_ble_eq_true rfl) rfl rfl dX2_init_82 (fun h_82 e_82 => ?_)
  have z_168 : h_82 a_7 = some (aA 1 72 (fun _ => 0)) := by rw [e_82]; exact upH_k z_149 z_165 (by intro z; cases z)
  have z_169 : h_82 a_15 = some (aA 0 36 (fun _ => 0)) := by rw [e_82]; exact upH_k z_150 z_165 (by intro z; cases z)
  have z_170 : h_82 a_23 = some (aA 0 36 (fun _ => 0)) := by rw [e_82]; exact upH_k z_152 z_165 (by intro z; cases z)
  have z_171 : h_82 a_30 = some (aA 0 5 (fun _ => 0)) := by rw [e_82]; exact upH_k z_154 z_165 (by intro z; cases z)
  have z_172 : h_82 a_37 = some (aA 0 5 (fun _ => 0)) := by rw [e_82]; exact upH_k z_156 z_165 (by intro z; cases z)
  have z_173 : h_82 a_45 = some (aA 0 20 (fun _ => 0)) := by rw [e_82]; exact upH_k z_158 z_165 (by intro z; cases z)
  have z_174 : h_82 a_53 = some (aA 1 20 (fun _ => 0)) := by rw [e_82]; exact upH_k z_160 z_165 (by intro z; cases z)
  have z_175 : h_82 a_62 = some (aA 0 540 (fun _ => 0)) := by rw [e_82]; exact upH_k z_161 z_165 (by intro z; cases z)
  have z_176 : h_82 a_71 = some (aA 0 540 (fun _ => 0)) := by rw [e_82]; exact upH_k z_163 z_165 (by intro z; cases z)
  have z_177 : h_82 a_80 = some (aA 0 540 (fun _ => 0)) := by rw [e_82]; exact upH_k z_166 z_165 (by intro z; cases z)
  have z_178 : h_82 o = some (aO 1 [IV 0, .ref a_7, .ref a_15, .ref a_23, .ref a_30, .ref a_37, IV 0, .ref a_45, .ref a_53, IV 0, .ref a_62, .ref a_71, .ref a_80, IV 0, IV 0, IV 0, IV 0, IV 0, .null, IV 0, .null, .null, .null, .null, .null, .null, IV 0, .null, .null, .null, .null, .null, .null, .null, .null, .null, .null, IV 0, IV 0, .null, .null, .null, IV 0, IV 0]) := by rw [e_82]; exact upH_self _ _ _
  have nd_179 : [a_80, a_71, a_62, a_53, a_45, a_37, a_30, a_23, a_15, a_7].Nodup ∧ ∀ b ∈ [a_80, a_71, a_62, a_53, a_45, a_37, a_30, a_23, a_15, a_7], h_82 b ≠ none := nd_put nd_167 e_82
  refine j_aload_n (pc := 85) dX2_init_85 rfl ?_
  refine j_iconst (pc := 86) dX2_init_86 rfl ?_
  refine j1_put fp_X2_41_X2 z_178 (Nat.le_of_ble_eq_true rfl) rfl rfl dX2_init_87 (fun h_87 e_87 => ?_)
  have z_180 : h_87 a_7 = some (aA 1 72 (fun _ => 0)) := by rw [e_87]; exact upH_k z_168 z_178 (by intro z; cases z)
  have z_181 : h_87 a_15 = some (aA 0 36 (fun _ => 0)) := by rw [e_87]; exact upH_k z_169 z_178 (by intro z; cases z)
  have z_182 : h_87 a_23 = some (aA 0 36 (fun _ => 0)) := by rw [e_87]; exact upH_k z_170 z_178 (by intro z; cases z)
  have z_183 : h_87 a_30 = some (aA 0 5 (fun _ => 0)) := by rw [e_87]; exact upH_k z_171 z_178 (by intro z; cases z)
  have z_184 : h_87 a_37 = some (aA 0 5 (fun _ => 0)) := by rw [e_87]; exact upH_k z_172 z_178 (by intro z; cases z)
  have z_185 : h_87 a_45 = some (aA 0 20 (fun _ => 0)) := by rw [e_87]; exact upH_k z_173 z_178 (by intro z; cases z)
  have z_186 : h_87 a_53 = some (aA 1 20 (fun _ => 0)) := by rw [e_87]; exact upH_k z_174 z_178 (by intro z; cases z)
  have z_187 : h_87 a_62 = some (aA 0 540 (fun _ => 0)) := by rw [e_87]; exact upH_k z_175 z_178 (by intro z; cases z)
  have z_188 : h_87 a_71 = some (aA 0 540 (fun _ => 0)) := by rw [e_87]; exact upH_k z_176 z_178 (by intro z; cases z)
  have z_189 : h_87 a_80 = some (aA 0 540 (fun _ => 0)) := by rw [e_87]; exact upH_k z_177 z_178 (by intro z; cases z)
  have z_190 : h_87 o = some (aO 1 [IV 0, .ref a_7, .ref a_15, .ref a_23, .ref a_30, .ref a_37, IV 0, .ref a_45, .ref a_53, IV 0, .ref a_62, .ref a_71, .ref a_80, IV 0, IV 0, IV 0, IV 0, IV 0, .null, IV 0, .null, .null, .null, .null, .null, .null, IV 0, .null, .null, .null, .null, .null, .null, .null, .null, .null, .null, IV 0, IV 0, .null, .null, .null, IV 0, IV 0]) := by rw [e_87]; exact upH_self _ _ _
  have nd_191 : [a_80, a_71, a_62, a_53, a_45, a_37, a_30, a_23, a_15, a_7].Nodup ∧ ∀ b ∈ [a_80, a_71, a_62, a_53, a_45, a_37, a_30, a_23, a_15, a_7], h_87 b ≠ none := nd_put nd_179 e_87
  refine j_aload_n (pc := 90) dX2_init_90 rfl ?_
  refine j_iconst (pc := 91) dX2_init_91 rfl ?_
  refine j_room (cl' := 19 + 1) (sl' := 3664 + 5) (by omega) (by omega) ?_
  refine j1_newa (i := 5) (N := 5) (atype := .int) hal (Or.inl ⟨rfl, rfl⟩) q141 (by omega) (by omega) (by omega) dX2_init_92 (fun a_92 h_92 n_92 e_92 => ?_)
  have z_192 : h_92 a_7 = some (aA 1 72 (fun _ => 0)) := by rw [e_92]; exact upH_old z_180 n_92
  have z_193 : h_92 a_15 = some (aA 0 36 (fun _ => 0)) := by rw [e_92]; exact upH_old z_181 n_92
  have ne_194 : a_15 ≠ a_92 := fresh_ne z_181 n_92
  have z_195 : h_92 a_23 = some (aA 0 36 (fun _ => 0)) := by rw [e_92]; exact upH_old z_182 n_92
  have ne_196 : a_23 ≠ a_92 := fresh_ne z_182 n_92
  have z_197 : h_92 a_30 = some (aA 0 5 (fun _ => 0)) := by rw [e_92]; exact upH_old z_183 n_92
  have ne_198 : a_30 ≠ a_92 := fresh_ne z_183 n_92
  have z_199 : h_92 a_37 = some (aA 0 5 (fun _ => 0)) := by rw [e_92]; exact upH_old z_184 n_92
  have ne_200 : a_37 ≠ a_92 := fresh_ne z_184 n_92
  have z_201 : h_92 a_45 = some (aA 0 20 (fun _ => 0)) := by rw [e_92]; exact upH_old z_185 n_92
  have ne_202 : a_45 ≠ a_92 := fresh_ne z_185 n_92
  have z_203 : h_92 a_53 = some (aA 1 20 (fun _ => 0)) := by rw [e_92]; exact upH_old z_186 n_92
  have z_204 : h_92 a_62 = some (aA 0 540 (fun _ => 0)) := by rw [e_92]; exact upH_old z_187 n_92
  have ne_205 : a_62 ≠ a_92 := fresh_ne z_187 n_92
  have z_206 : h_92 a_71 = some (aA 0 540 (fun _ => 0)) := by rw [e_92]; exact upH_old z_188 n_92
  have ne_207 : a_71 ≠ a_92 := fresh_ne z_188 n_92
  have z_208 : h_92 a_80 = some (aA 0 540 (fun _ => 0)) := by rw [e_92]; exact upH_old z_189 n_92
  have ne_209 : a_80 ≠ a_92 := fresh_ne z_189 n_92
  have z_210 : h_92 o = some (aO 1 [IV 0, .ref a_7, .ref a_15, .ref a_23, .ref a_30, .ref a_37, IV 0, .ref a_45, .ref a_53, IV 0, .ref a_62, .ref a_71, .ref a_80, IV 0, IV 0, IV 0, IV 0, IV 0, .null, IV 0, .null, .null, .null, .null, .null, .null, IV 0, .null, .null, .null, .null, .null, .null, .null, .null, .null, .null, IV 0, IV 0, .null, .null, .null, IV 0, IV 0]) := by rw [e_92]; exact upH_old z_190 n_92
  have z_211 : h_92 a_92 = some (aA 0 5 (fun _ => 0)) := by rw [e_92]; exact upH_self _ _ _
  have nd_212 : [a_92, a_80, a_71, a_62, a_53, a_45, a_37, a_30, a_23, a_15, a_7].Nodup ∧ ∀ b ∈ [a_92, a_80, a_71, a_62, a_53, a_45, a_37, a_30, a_23, a_15, a_7], h_92 b ≠ none := nd_new nd_191 n_92 e_92
  have no_a_92 : a_92 ≠ o := Ne.symm (fresh_ne z_190 n_92)
  refine j1_putF rfl fp_X2_45_X2 z_210 (Nat.le_of_ble_eq_true rfl) rfl rfl dX2_init_94 (fun h_94 e_94 => ?_)
  have z_213 : h_94 a_7 = some (aA 1 72 (fun _ => 0)) := by rw [e_94]; exact upH_k z_192 z_210 (by intro z; cases z)
  have z_214 : h_94 a_15 = some (aA 0 36 (fun _ => 0)) := by rw [e_94]; exact upH_k z_193 z_210 (by intro z; cases z)
  have z_215 : h_94 a_23 = some (aA 0 36 (fun _ => 0)) := by rw [e_94]; exact upH_k z_195 z_210 (by intro z; cases z)
  have z_216 : h_94 a_30 = some (aA 0 5 (fun _ => 0)) := by rw [e_94]; exact upH_k z_197 z_210 (by intro z; cases z)
  have z_217 : h_94 a_37 = some (aA 0 5 (fun _ => 0)) := by rw [e_94]; exact upH_k z_199 z_210 (by intro z; cases z)
  have z_218 : h_94 a_45 = some (aA 0 20 (fun _ => 0)) := by rw [e_94]; exact upH_k z_201 z_210 (by intro z; cases z)
  have z_219 : h_94 a_53 = some (aA 1 20 (fun _ => 0)) := by rw [e_94]; exact upH_k z_203 z_210 (by intro z; cases z)
  have z_220 : h_94 a_62 = some (aA 0 540 (fun _ => 0)) := by rw [e_94]; exact upH_k z_204 z_210 (by intro z; cases z)
  have z_221 : h_94 a_71 = some (aA 0 540 (fun _ => 0)) := by rw [e_94]; exact upH_k z_206 z_210 (by intro z; cases z)
  have z_222 : h_94 a_80 = some (aA 0 540 (fun _ => 0)) := by rw [e_94]; exact upH_k z_208 z_210 (by intro z; cases z)
  have z_223 : h_94 a_92 = some (aA 0 5 (fun _ => 0)) := by rw [e_94]; exact upH_k z_211 z_210 (by intro z; cases z)
  have z_224 : h_94 o = some (aO 1 [IV 0, .ref a_7, .ref a_15, .ref a_23, .ref a_30, .ref a_37, IV 0, .ref a_45, .ref a_53, IV 0, .ref a_62, .ref a_71, .ref a_80, IV 0, IV 0, IV 0, IV 0, IV 0, .ref a_92, IV 0, .null, .null, .null, .null, .null, .null, IV 0, .null, .null, .null, .null, .null, .null, .null, .null, .null, .null, IV 0, IV 0, .null, .null, .null, IV 0, IV 0]) := by rw [e_94]; exact upH_self _ _ _
  have nd_225 : [a_92, a_80, a_71, a_62, a_53, a_45, a_37, a_30, a_23, a_15, a_7].Nodup ∧ ∀ b ∈ [a_92, a_80, a_71, a_62, a_53, a_45, a_37, a_30, a_23, a_15, a_7], h_94 b ≠ none := nd_put nd_212 e_94
  refine j_aload_n (pc := 97) dX2_init_97 rfl ?_
  refine j_bipush (pc := 98) (a := 20) dX2_init_98 (by decide) ?_
  refine j_room (cl' := 18 + 1) (sl' := 3644 + 20) (by omega) (by omega) ?_
  refine j1_newa (i := 20) (N := 20) (atype := .int) hal (Or.inl ⟨rfl, rfl⟩) q141 (by omega) (by omega) (by omega) dX2_init_100 (fun a_100 h_100 n_100 e_100 => ?_)
  have z_226 : h_100 a_7 = some (aA 1 72 (fun _ => 0)) := by rw [e_100]; exact upH_old z_213 n_100
  have z_227 : h_100 a_15 = some (aA 0 36 (fun _ => 0)) := by rw [e_100]; exact upH_old z_214 n_100
  have ne_228 : a_15 ≠ a_100 := fresh_ne z_214 n_100
  have z_229 : h_100 a_23 = some (aA 0 36 (fun _ => 0)) := by rw [e_100]; exact upH_old z_215 n_100
  have ne_230 : a_23 ≠ a_100 := fresh_ne z_215 n_100
  have z_231 : h_100 a_30 = some (aA 0 5 (fun _ => 0)) := by rw [e_100]; exact upH_old z_216 n_100
  have ne_232 : a_30 ≠ a_100 := fresh_ne z_216 n_100
  have z_233 : h_100 a_37 = some (aA 0 5 (fun _ => 0)) := by rw [e_100]; exact upH_old z_217 n_100
  have ne_234 : a_37 ≠ a_100 := fresh_ne z_217 n_100
  have z_235 : h_100 a_45 = some (aA 0 20 (fun _ => 0)) := by rw [e_100]; exact upH_old z_218 n_100
  have ne_236 : a_45 ≠ a_100 := fresh_ne z_218 n_100
  have z_237 : h_100 a_53 = some (aA 1 20 (fun _ => 0)) := by rw [e_100]; exact upH_old z_219 n_100
  have z_238 : h_100 a_62 = some (aA 0 540 (fun _ => 0)) := by rw [e_100]; exact upH_old z_220 n_100
  have ne_239 : a_62 ≠ a_100 := fresh_ne z_220 n_100
  have z_240 : h_100 a_71 = some (aA 0 540 (fun _ => 0)) := by rw [e_100]; exact upH_old z_221 n_100
  have ne_241 : a_71 ≠ a_100 := fresh_ne z_221 n_100
  have z_242 : h_100 a_80 = some (aA 0 540 (fun _ => 0)) := by rw [e_100]; exact upH_old z_222 n_100
  have ne_243 : a_80 ≠ a_100 := fresh_ne z_222 n_100
  have z_244 : h_100 a_92 = some (aA 0 5 (fun _ => 0)) := by rw [e_100]; exact upH_old z_223 n_100
  have ne_245 : a_92 ≠ a_100 := fresh_ne z_223 n_100
  have z_246 : h_100 o = some (aO 1 [IV 0, .ref a_7, .ref a_15, .ref a_23, .ref a_30, .ref a_37, IV 0, .ref a_45, .ref a_53, IV 0, .ref a_62, .ref a_71, .ref a_80, IV 0, IV 0, IV 0, IV 0, IV 0, .ref a_92, IV 0, .null, .null, .null, .null, .null, .null, IV 0, .null, .null, .null, .null, .null, .null, .null, .null, .null, .null, IV 0, IV 0, .null, .null, .null, IV 0, IV 0]) := by rw [e_100]; exact upH_old z_224 n_100
  have z_247 : h_100 a_100 = some (aA 0 20 (fun _ => 0)) := by rw [e_100]; exact upH_self _ _ _
  have nd_248 : [a_100, a_92, a_80, a_71, a_62, a_53, a_45, a_37, a_30, a_23, a_15, a_7].Nodup ∧ ∀ b ∈ [a_100, a_92, a_80, a_71, a_62, a_53, a_45, a_37, a_30, a_23, a_15, a_7], h_100 b ≠ none := nd_new nd_225 n_100 e_100
  have no_a_100 : a_100 ≠ o := Ne.symm (fresh_ne z_224 n_100)
  refine j1_putF rfl fp_X2_48_X2 z_246 (Nat.le_of_ble_eq_true rfl) rfl rfl dX2_init_102 (fun h_102 e_102 => ?_)
  have z_249 : h_102 a_7 = some (aA 1 72 (fun _ => 0)) := by rw [e_102]; exact upH_k z_226 z_246 (by intro z; cases z)
  have z_250 : h_102 a_15 = some (aA 0 36 (fun _ => 0)) := by rw [e_102]; exact upH_k z_227 z_246 (by intro z; cases z)
  have z_251 : h_102 a_23 = some (aA 0 36 (fun _ => 0)) := by rw [e_102]; exact upH_k z_229 z_246 (by intro z; cases z)
  have z_252 : h_102 a_30 = some (aA 0 5 (fun _ => 0)) := by rw [e_102]; exact upH_k z_231 z_246 (by intro z; cases z)
  have z_253 : h_102 a_37 = some (aA 0 5 (fun _ => 0)) := by rw [e_102]; exact upH_k z_233 z_246 (by intro z; cases z)
  have z_254 : h_102 a_45 = some (aA 0 20 (fun _ => 0)) := by rw [e_102]; exact upH_k z_235 z_246 (by intro z; cases z)
  have z_255 : h_102 a_53 = some (aA 1 20 (fun _ => 0)) := by rw [e_102]; exact upH_k z_237 z_246 (by intro z; cases z)
  have z_256 : h_102 a_62 = some (aA 0 540 (fun _ => 0)) := by rw [e_102]; exact upH_k z_238 z_246 (by intro z; cases z)
  have z_257 : h_102 a_71 = some (aA 0 540 (fun _ => 0)) := by rw [e_102]; exact upH_k z_240 z_246 (by intro z; cases z)
  have z_258 : h_102 a_80 = some (aA 0 540 (fun _ => 0)) := by rw [e_102]; exact upH_k z_242 z_246 (by intro z; cases z)
  have z_259 : h_102 a_92 = some (aA 0 5 (fun _ => 0)) := by rw [e_102]; exact upH_k z_244 z_246 (by intro z; cases z)
  have z_260 : h_102 a_100 = some (aA 0 20 (fun _ => 0)) := by rw [e_102]; exact upH_k z_247 z_246 (by intro z; cases z)
  have z_261 : h_102 o = some (aO 1 [IV 0, .ref a_7, .ref a_15, .ref a_23, .ref a_30, .ref a_37, IV 0, .ref a_45, .ref a_53, IV 0, .ref a_62, .ref a_71, .ref a_80, IV 0, IV 0, IV 0, IV 0, IV 0, .ref a_92, IV 0, .ref a_100, .null, .null, .null, .null, .null, IV 0, .null, .null, .null, .null, .null, .null, .null, .null, .null, .null, IV 0, IV 0, .null, .null, .null, IV 0, IV 0]) := by rw [e_102]; exact upH_self _ _ _
  have nd_262 : [a_100, a_92, a_80, a_71, a_62, a_53, a_45, a_37, a_30, a_23, a_15, a_7].Nodup ∧ ∀ b ∈ [a_100, a_92, a_80, a_71, a_62, a_53, a_45, a_37, a_30, a_23, a_15, a_7], h_102 b ≠ none := nd_put nd_248 e_102
  refine j_aload_n (pc := 105) dX2_init_105 rfl ?_
  refine j_iconst (pc := 106) dX2_init_106 rfl ?_
  refine j_room (cl' := 17 + 1) (sl' := 3639 + 5) (by omega) (by omega) ?_
  refine j1_newa (i := 5) (N := 5) (atype := .int) hal (Or.inl ⟨rfl, rfl⟩) q141 (by omega) (by omega) (by omega) dX2_init_107 (fun a_107 h_107 n_107 e_107 => ?_)
  have z_263 : h_107 a_7 = some (aA 1 72 (fun _ => 0)) := by rw [e_107]; exact upH_old z_249 n_107
  have z_264 : h_107 a_15 = some (aA 0 36 (fun _ => 0)) := by rw [e_107]; exact upH_old z_250 n_107
  have ne_265 : a_15 ≠ a_107 := fresh_ne z_250 n_107
  have z_266 : h_107 a_23 = some (aA 0 36 (fun _ => 0)) := by rw [e_107]; exact upH_old z_251 n_107
  have ne_267 : a_23 ≠ a_107 := fresh_ne z_251 n_107
  have z_268 : h_107 a_30 = some (aA 0 5 (fun _ => 0)) := by rw [e_107]; exact upH_old z_252 n_107
  have ne_269 : a_30 ≠ a_107 := fresh_ne z_252 n_107
  have z_270 : h_107 a_37 = some (aA 0 5 (fun _ => 0)) := by rw [e_107]; exact upH_old z_253 n_107
  have ne_271 : a_37 ≠ a_107 := fresh_ne z_253 n_107
  have z_272 : h_107 a_45 = some (aA 0 20 (fun _ => 0)) := by rw [e_107]; exact upH_old z_254 n_107
  have ne_273 : a_45 ≠ a_107 := fresh_ne z_254 n_107
  have z_274 : h_107 a_53 = some (aA 1 20 (fun _ => 0)) := by rw [e_107]; exact upH_old z_255 n_107
  have z_275 : h_107 a_62 = some (aA 0 540 (fun _ => 0)) := by rw [e_107]; exact upH_old z_256 n_107
  have ne_276 : a_62 ≠ a_107 := fresh_ne z_256 n_107
  have z_277 : h_107 a_71 = some (aA 0 540 (fun _ => 0)) := by rw [e_107]; exact upH_old z_257 n_107
  have ne_278 : a_71 ≠ a_107 := fresh_ne z_257 n_107
  have z_279 : h_107 a_80 = some (aA 0 540 (fun _ => 0)) := by rw [e_107]; exact upH_old z_258 n_107
  have ne_280 : a_80 ≠ a_107 := fresh_ne z_258 n_107
  have z_281 : h_107 a_92 = some (aA 0 5 (fun _ => 0)) := by rw [e_107]; exact upH_old z_259 n_107
  have ne_282 : a_92 ≠ a_107 := fresh_ne z_259 n_107
  have z_283 : h_107 a_100 = some (aA 0 20 (fun _ => 0)) := by rw [e_107]; exact upH_old z_260 n_107
  have ne_284 : a_100 ≠ a_107 := fresh_ne z_260 n_107
  have z_285 : h_107 o = some (aO 1 [IV 0, .ref a_7, .ref a_15, .ref a_23, .ref a_30, .ref a_37, IV 0, .ref a_45, .ref a_53, IV 0, .ref a_62, .ref a_71, .ref a_80, IV 0, IV 0, IV 0, IV 0, IV 0, .ref a_92, IV 0, .ref a_100, .null, .null, .null, .null, .null, IV 0, .null, .null, .null, .null, .null, .null, .null, .null, .null, .null, IV 0, IV 0, .null, .null, .null, IV 0, IV 0]) := by rw [e_107]; exact upH_old z_261 n_107
  have z_286 : h_107 a_107 = some (aA 0 5 (fun _ => 0)) := by rw [e_107]; exact upH_self _ _ _
  have nd_287 : [a_107, a_100, a_92, a_80, a_71, a_62, a_53, a_45, a_37, a_30, a_23, a_15, a_7].Nodup ∧ ∀ b ∈ [a_107, a_100, a_92, a_80, a_71, a_62, a_53, a_45, a_37, a_30, a_23, a_15, a_7], h_107 b ≠ none := nd_new nd_262 n_107 e_107
  have no_a_107 : a_107 ≠ o := Ne.symm (fresh_ne z_261 n_107)
  refine j1_putF rfl fp_X2_51_X2 z_285 (Nat.le_of_ble_eq_true rfl) rfl rfl dX2_init_109 (fun h_109 e_109 => ?_)
  have z_288 : h_109 a_7 = some (aA 1 72 (fun _ => 0)) := by rw [e_109]; exact upH_k z_263 z_285 (by intro z; cases z)
  have z_289 : h_109 a_15 = some (aA 0 36 (fun _ => 0)) := by rw [e_109]; exact upH_k z_264 z_285 (by intro z; cases z)
  have z_290 : h_109 a_23 = some (aA 0 36 (fun _ => 0)) := by rw [e_109]; exact upH_k z_266 z_285 (by intro z; cases z)
  have z_291 : h_109 a_30 = some (aA 0 5 (fun _ => 0)) := by rw [e_109]; exact upH_k z_268 z_285 (by intro z; cases z)
  have z_292 : h_109 a_37 = some (aA 0 5 (fun _ => 0)) := by rw [e_109]; exact upH_k z_270 z_285 (by intro z; cases z)
  have z_293 : h_109 a_45 = some (aA 0 20 (fun _ => 0)) := by rw [e_109]; exact upH_k z_272 z_285 (by intro z; cases z)
  have z_294 : h_109 a_53 = some (aA 1 20 (fun _ => 0)) := by rw [e_109]; exact upH_k z_274 z_285 (by intro z; cases z)
  have z_295 : h_109 a_62 = some (aA 0 540 (fun _ => 0)) := by rw [e_109]; exact upH_k z_275 z_285 (by intro z; cases z)
  have z_296 : h_109 a_71 = some (aA 0 540 (fun _ => 0)) := by rw [e_109]; exact upH_k z_277 z_285 (by intro z; cases z)
  have z_297 : h_109 a_80 = some (aA 0 540 (fun _ => 0)) := by rw [e_109]; exact upH_k z_279 z_285 (by intro z; cases z)
  have z_298 : h_109 a_92 = some (aA 0 5 (fun _ => 0)) := by rw [e_109]; exact upH_k z_281 z_285 (by intro z; cases z)
  have z_299 : h_109 a_100 = some (aA 0 20 (fun _ => 0)) := by rw [e_109]; exact upH_k z_283 z_285 (by intro z; cases z)
  have z_300 : h_109 a_107 = some (aA 0 5 (fun _ => 0)) := by rw [e_109]; exact upH_k z_286 z_285 (by intro z; cases z)
  have z_301 : h_109 o = some (aO 1 [IV 0, .ref a_7, .ref a_15, .ref a_23, .ref a_30, .ref a_37, IV 0, .ref a_45, .ref a_53, IV 0, .ref a_62, .ref a_71, .ref a_80, IV 0, IV 0, IV 0, IV 0, IV 0, .ref a_92, IV 0, .ref a_100, .ref a_107, .null, .null, .null, .null, IV 0, .null, .null, .null, .null, .null, .null, .null, .null, .null, .null, IV 0, IV 0, .null, .null, .null, IV 0, IV 0]) := by rw [e_109]; exact upH_self _ _ _
  have nd_302 : [a_107, a_100, a_92, a_80, a_71, a_62, a_53, a_45, a_37, a_30, a_23, a_15, a_7].Nodup ∧ ∀ b ∈ [a_107, a_100, a_92, a_80, a_71, a_62, a_53, a_45, a_37, a_30, a_23, a_15, a_7], h_109 b ≠ none := nd_put nd_287 e_109
  refine j_aload_n (pc := 112) dX2_init_112 rfl ?_
  refine j_bipush (pc := 113) (a := 20) dX2_init_113 (by decide) ?_
  refine j_room (cl' := 16 + 1) (sl' := 3619 + 20) (by omega) (by omega) ?_
  refine j1_newa (i := 20) (N := 20) (atype := .boolean) hal (Or.inr (Or.inl ⟨rfl, rfl⟩)) q115 (by omega) (by omega) (by omega) dX2_init_115 (fun a_115 h_115 n_115 e_115 => ?_)
  have z_303 : h_115 a_7 = some (aA 1 72 (fun _ => 0)) := by rw [e_115]; exact upH_old z_288 n_115
  have ne_304 : a_7 ≠ a_115 := fresh_ne z_288 n_115
  have z_305 : h_115 a_15 = some (aA 0 36 (fun _ => 0)) := by rw [e_115]; exact upH_old z_289 n_115
  have z_306 : h_115 a_23 = some (aA 0 36 (fun _ => 0)) := by rw [e_115]; exact upH_old z_290 n_115
  have z_307 : h_115 a_30 = some (aA 0 5 (fun _ => 0)) := by rw [e_115]; exact upH_old z_291 n_115
  have z_308 : h_115 a_37 = some (aA 0 5 (fun _ => 0)) := by rw [e_115]; exact upH_old z_292 n_115
  have z_309 : h_115 a_45 = some (aA 0 20 (fun _ => 0)) := by rw [e_115]; exact upH_old z_293 n_115
  have z_310 : h_115 a_53 = some (aA 1 20 (fun _ => 0)) := by rw [e_115]; exact upH_old z_294 n_115
  have ne_311 : a_53 ≠ a_115 := fresh_ne z_294 n_115
  have z_312 : h_115 a_62 = some (aA 0 540 (fun _ => 0)) := by rw [e_115]; exact upH_old z_295 n_115
  have z_313 : h_115 a_71 = some (aA 0 540 (fun _ => 0)) := by rw [e_115]; exact upH_old z_296 n_115
  have z_314 : h_115 a_80 = some (aA 0 540 (fun _ => 0)) := by rw [e_115]; exact upH_old z_297 n_115
  have z_315 : h_115 a_92 = some (aA 0 5 (fun _ => 0)) := by rw [e_115]; exact upH_old z_298 n_115
  have z_316 : h_115 a_100 = some (aA 0 20 (fun _ => 0)) := by rw [e_115]; exact upH_old z_299 n_115
  have z_317 : h_115 a_107 = some (aA 0 5 (fun _ => 0)) := by rw [e_115]; exact upH_old z_300 n_115
  have z_318 : h_115 o = some (aO 1 [IV 0, .ref a_7, .ref a_15, .ref a_23, .ref a_30, .ref a_37, IV 0, .ref a_45, .ref a_53, IV 0, .ref a_62, .ref a_71, .ref a_80, IV 0, IV 0, IV 0, IV 0, IV 0, .ref a_92, IV 0, .ref a_100, .ref a_107, .null, .null, .null, .null, IV 0, .null, .null, .null, .null, .null, .null, .null, .null, .null, .null, IV 0, IV 0, .null, .null, .null, IV 0, IV 0]) := by rw [e_115]; exact upH_old z_301 n_115
  have z_319 : h_115 a_115 = some (aA 1 20 (fun _ => 0)) := by rw [e_115]; exact upH_self _ _ _
  have nd_320 : [a_115, a_107, a_100, a_92, a_80, a_71, a_62, a_53, a_45, a_37, a_30, a_23, a_15, a_7].Nodup ∧ ∀ b ∈ [a_115, a_107, a_100, a_92, a_80, a_71, a_62, a_53, a_45, a_37, a_30, a_23, a_15, a_7], h_115 b ≠ none := nd_new nd_302 n_115 e_115
  have no_a_115 : a_115 ≠ o := Ne.symm (fresh_ne z_301 n_115)
  refine j1_putF rfl fp_X2_54_X2 z_318 (Nat.le_of_ble_eq_true rfl) rfl rfl dX2_init_117 (fun h_117 e_117 => ?_)
  have z_321 : h_117 a_7 = some (aA 1 72 (fun _ => 0)) := by rw [e_117]; exact upH_k z_303 z_318 (by intro z; cases z)
  have z_322 : h_117 a_15 = some (aA 0 36 (fun _ => 0)) := by rw [e_117]; exact upH_k z_305 z_318 (by intro z; cases z)
  have z_323 : h_117 a_23 = some (aA 0 36 (fun _ => 0)) := by rw [e_117]; exact upH_k z_306 z_318 (by intro z; cases z)
  have z_324 : h_117 a_30 = some (aA 0 5 (fun _ => 0)) := by rw [e_117]; exact upH_k z_307 z_318 (by intro z; cases z)
  have z_325 : h_117 a_37 = some (aA 0 5 (fun _ => 0)) := by rw [e_117]; exact upH_k z_308 z_318 (by intro z; cases z)
  have z_326 : h_117 a_45 = some (aA 0 20 (fun _ => 0)) := by rw [e_117]; exact upH_k z_309 z_318 (by intro z; cases z)
  have z_327 : h_117 a_53 = some (aA 1 20 (fun _ => 0)) := by rw [e_117]; exact upH_k z_310 z_318 (by intro z; cases z)
  have z_328 : h_117 a_62 = some (aA 0 540 (fun _ => 0)) := by rw [e_117]; exact upH_k z_312 z_318 (by intro z; cases z)
  have z_329 : h_117 a_71 = some (aA 0 540 (fun _ => 0)) := by rw [e_117]; exact upH_k z_313 z_318 (by intro z; cases z)
  have z_330 : h_117 a_80 = some (aA 0 540 (fun _ => 0)) := by rw [e_117]; exact upH_k z_314 z_318 (by intro z; cases z)
  have z_331 : h_117 a_92 = some (aA 0 5 (fun _ => 0)) := by rw [e_117]; exact upH_k z_315 z_318 (by intro z; cases z)
  have z_332 : h_117 a_100 = some (aA 0 20 (fun _ => 0)) := by rw [e_117]; exact upH_k z_316 z_318 (by intro z; cases z)
  have z_333 : h_117 a_107 = some (aA 0 5 (fun _ => 0)) := by rw [e_117]; exact upH_k z_317 z_318 (by intro z; cases z)
  have z_334 : h_117 a_115 = some (aA 1 20 (fun _ => 0)) := by rw [e_117]; exact upH_k z_319 z_318 (by intro z; cases z)
  have z_335 : h_117 o = some (aO 1 [IV 0, .ref a_7, .ref a_15, .ref a_23, .ref a_30, .ref a_37, IV 0, .ref a_45, .ref a_53, IV 0, .ref a_62, .ref a_71, .ref a_80, IV 0, IV 0, IV 0, IV 0, IV 0, .ref a_92, IV 0, .ref a_100, .ref a_107, .ref a_115, .null, .null, .null, IV 0, .null, .null, .null, .null, .null, .null, .null, .null, .null, .null, IV 0, IV 0, .null, .null, .null, IV 0, IV 0]) := by rw [e_117]; exact upH_self _ _ _
  have nd_336 : [a_115, a_107, a_100, a_92, a_80, a_71, a_62, a_53, a_45, a_37, a_30, a_23, a_15, a_7].Nodup ∧ ∀ b ∈ [a_115, a_107, a_100, a_92, a_80, a_71, a_62, a_53, a_45, a_37, a_30, a_23, a_15, a_7], h_117 b ≠ none := nd_put nd_320 e_117
  refine j_aload_n (pc := 120) dX2_init_120 rfl ?_
  refine j_bipush (pc := 121) (a := 60) dX2_init_121 (by decide) ?_
  refine j_room (cl' := 15 + 1) (sl' := 3559 + 60) (by omega) (by omega) ?_
  refine j1_newa (i := 60) (N := 60) (atype := .int) hal (Or.inl ⟨rfl, rfl⟩) q141 (by omega) (by omega) (by omega) dX2_init_123 (fun a_123 h_123 n_123 e_123 => ?_)
  have z_337 : h_123 a_7 = some (aA 1 72 (fun _ => 0)) := by rw [e_123]; exact upH_old z_321 n_123
  have z_338 : h_123 a_15 = some (aA 0 36 (fun _ => 0)) := by rw [e_123]; exact upH_old z_322 n_123
  have ne_339 : a_15 ≠ a_123 := fresh_ne z_322 n_123
  have z_340 : h_123 a_23 = some (aA 0 36 (fun _ => 0)) := by rw [e_123]; exact upH_old z_323 n_123
  have ne_341 : a_23 ≠ a_123 := fresh_ne z_323 n_123
  have z_342 : h_123 a_30 = some (aA 0 5 (fun _ => 0)) := by rw [e_123]; exact upH_old z_324 n_123
  have ne_343 : a_30 ≠ a_123 := fresh_ne z_324 n_123
  have z_344 : h_123 a_37 = some (aA 0 5 (fun _ => 0)) := by rw [e_123]; exact upH_old z_325 n_123
  have ne_345 : a_37 ≠ a_123 := fresh_ne z_325 n_123
  have z_346 : h_123 a_45 = some (aA 0 20 (fun _ => 0)) := by rw [e_123]; exact upH_old z_326 n_123
  have ne_347 : a_45 ≠ a_123 := fresh_ne z_326 n_123
  have z_348 : h_123 a_53 = some (aA 1 20 (fun _ => 0)) := by rw [e_123]; exact upH_old z_327 n_123
  have z_349 : h_123 a_62 = some (aA 0 540 (fun _ => 0)) := by rw [e_123]; exact upH_old z_328 n_123
  have ne_350 : a_62 ≠ a_123 := fresh_ne z_328 n_123
  have z_351 : h_123 a_71 = some (aA 0 540 (fun _ => 0)) := by rw [e_123]; exact upH_old z_329 n_123
  have ne_352 : a_71 ≠ a_123 := fresh_ne z_329 n_123
  have z_353 : h_123 a_80 = some (aA 0 540 (fun _ => 0)) := by rw [e_123]; exact upH_old z_330 n_123
  have ne_354 : a_80 ≠ a_123 := fresh_ne z_330 n_123
  have z_355 : h_123 a_92 = some (aA 0 5 (fun _ => 0)) := by rw [e_123]; exact upH_old z_331 n_123
  have ne_356 : a_92 ≠ a_123 := fresh_ne z_331 n_123
  have z_357 : h_123 a_100 = some (aA 0 20 (fun _ => 0)) := by rw [e_123]; exact upH_old z_332 n_123
  have ne_358 : a_100 ≠ a_123 := fresh_ne z_332 n_123
  have z_359 : h_123 a_107 = some (aA 0 5 (fun _ => 0)) := by rw [e_123]; exact upH_old z_333 n_123
  have ne_360 : a_107 ≠ a_123 := fresh_ne z_333 n_123
  have z_361 : h_123 a_115 = some (aA 1 20 (fun _ => 0)) := by rw [e_123]; exact upH_old z_334 n_123
  have z_362 : h_123 o = some (aO 1 [IV 0, .ref a_7, .ref a_15, .ref a_23, .ref a_30, .ref a_37, IV 0, .ref a_45, .ref a_53, IV 0, .ref a_62, .ref a_71, .ref a_80, IV 0, IV 0, IV 0, IV 0, IV 0, .ref a_92, IV 0, .ref a_100, .ref a_107, .ref a_115, .null, .null, .null, IV 0, .null, .null, .null, .null, .null, .null, .null, .null, .null, .null, IV 0, IV 0, .null, .null, .null, IV 0, IV 0]) := by rw [e_123]; exact upH_old z_335 n_123
  have z_363 : h_123 a_123 = some (aA 0 60 (fun _ => 0)) := by rw [e_123]; exact upH_self _ _ _
  have nd_364 : [a_123, a_115, a_107, a_100, a_92, a_80, a_71, a_62, a_53, a_45, a_37, a_30, a_23, a_15, a_7].Nodup ∧ ∀ b ∈ [a_123, a_115, a_107, a_100, a_92, a_80, a_71, a_62, a_53, a_45, a_37, a_30, a_23, a_15, a_7], h_123 b ≠ none := nd_new nd_336 n_123 e_123
  have no_a_123 : a_123 ≠ o := Ne.symm (fresh_ne z_335 n_123)
  refine j1_putF rfl fp_X2_57_X2 z_362 (Nat.le_of_ble_eq_true rfl) rfl rfl dX2_init_125 (fun h_125 e_125 => ?_)
  have z_365 : h_125 a_7 = some (aA 1 72 (fun _ => 0)) := by rw [e_125]; exact upH_k z_337 z_362 (by intro z; cases z)
  have z_366 : h_125 a_15 = some (aA 0 36 (fun _ => 0)) := by rw [e_125]; exact upH_k z_338 z_362 (by intro z; cases z)
  have z_367 : h_125 a_23 = some (aA 0 36 (fun _ => 0)) := by rw [e_125]; exact upH_k z_340 z_362 (by intro z; cases z)
  have z_368 : h_125 a_30 = some (aA 0 5 (fun _ => 0)) := by rw [e_125]; exact upH_k z_342 z_362 (by intro z; cases z)
  have z_369 : h_125 a_37 = some (aA 0 5 (fun _ => 0)) := by rw [e_125]; exact upH_k z_344 z_362 (by intro z; cases z)
  have z_370 : h_125 a_45 = some (aA 0 20 (fun _ => 0)) := by rw [e_125]; exact upH_k z_346 z_362 (by intro z; cases z)
  have z_371 : h_125 a_53 = some (aA 1 20 (fun _ => 0)) := by rw [e_125]; exact upH_k z_348 z_362 (by intro z; cases z)
  have z_372 : h_125 a_62 = some (aA 0 540 (fun _ => 0)) := by rw [e_125]; exact upH_k z_349 z_362 (by intro z; cases z)
  have z_373 : h_125 a_71 = some (aA 0 540 (fun _ => 0)) := by rw [e_125]; exact upH_k z_351 z_362 (by intro z; cases z)
  have z_374 : h_125 a_80 = some (aA 0 540 (fun _ => 0)) := by rw [e_125]; exact upH_k z_353 z_362 (by intro z; cases z)
  have z_375 : h_125 a_92 = some (aA 0 5 (fun _ => 0)) := by rw [e_125]; exact upH_k z_355 z_362 (by intro z; cases z)
  have z_376 : h_125 a_100 = some (aA 0 20 (fun _ => 0)) := by rw [e_125]; exact upH_k z_357 z_362 (by intro z; cases z)
  have z_377 : h_125 a_107 = some (aA 0 5 (fun _ => 0)) := by rw [e_125]; exact upH_k z_359 z_362 (by intro z; cases z)
  have z_378 : h_125 a_115 = some (aA 1 20 (fun _ => 0)) := by rw [e_125]; exact upH_k z_361 z_362 (by intro z; cases z)
  have z_379 : h_125 a_123 = some (aA 0 60 (fun _ => 0)) := by rw [e_125]; exact upH_k z_363 z_362 (by intro z; cases z)
  have z_380 : h_125 o = some (aO 1 [IV 0, .ref a_7, .ref a_15, .ref a_23, .ref a_30, .ref a_37, IV 0, .ref a_45, .ref a_53, IV 0, .ref a_62, .ref a_71, .ref a_80, IV 0, IV 0, IV 0, IV 0, IV 0, .ref a_92, IV 0, .ref a_100, .ref a_107, .ref a_115, .ref a_123, .null, .null, IV 0, .null, .null, .null, .null, .null, .null, .null, .null, .null, .null, IV 0, IV 0, .null, .null, .null, IV 0, IV 0]) := by rw [e_125]; exact upH_self _ _ _
  have nd_381 : [a_123, a_115, a_107, a_100, a_92, a_80, a_71, a_62, a_53, a_45, a_37, a_30, a_23, a_15, a_7].Nodup ∧ ∀ b ∈ [a_123, a_115, a_107, a_100, a_92, a_80, a_71, a_62, a_53, a_45, a_37, a_30, a_23, a_15, a_7], h_125 b ≠ none := nd_put nd_364 e_125
  refine j_aload_n (pc := 128) dX2_init_128 rfl ?_
  refine j_bipush (pc := 129) (a := 60) dX2_init_129 (by decide) ?_
  refine j_room (cl' := 14 + 1) (sl' := 3499 + 60) (by omega) (by omega) ?_
  refine j1_newa (i := 60) (N := 60) (atype := .int) hal (Or.inl ⟨rfl, rfl⟩) q141 (by omega) (by omega) (by omega) dX2_init_131 (fun a_131 h_131 n_131 e_131 => ?_)
  have z_382 : h_131 a_7 = some (aA 1 72 (fun _ => 0)) := by rw [e_131]; exact upH_old z_365 n_131
  have z_383 : h_131 a_15 = some (aA 0 36 (fun _ => 0)) := by rw [e_131]; exact upH_old z_366 n_131
  have ne_384 : a_15 ≠ a_131 := fresh_ne z_366 n_131
  have z_385 : h_131 a_23 = some (aA 0 36 (fun _ => 0)) := by rw [e_131]; exact upH_old z_367 n_131
  have ne_386 : a_23 ≠ a_131 := fresh_ne z_367 n_131
  have z_387 : h_131 a_30 = some (aA 0 5 (fun _ => 0)) := by rw [e_131]; exact upH_old z_368 n_131
  have ne_388 : a_30 ≠ a_131 := fresh_ne z_368 n_131
  have z_389 : h_131 a_37 = some (aA 0 5 (fun _ => 0)) := by rw [e_131]; exact upH_old z_369 n_131
  have ne_390 : a_37 ≠ a_131 := fresh_ne z_369 n_131
  have z_391 : h_131 a_45 = some (aA 0 20 (fun _ => 0)) := by rw [e_131]; exact upH_old z_370 n_131
  have ne_392 : a_45 ≠ a_131 := fresh_ne z_370 n_131
  have z_393 : h_131 a_53 = some (aA 1 20 (fun _ => 0)) := by rw [e_131]; exact upH_old z_371 n_131
  have z_394 : h_131 a_62 = some (aA 0 540 (fun _ => 0)) := by rw [e_131]; exact upH_old z_372 n_131
  have ne_395 : a_62 ≠ a_131 := fresh_ne z_372 n_131
  have z_396 : h_131 a_71 = some (aA 0 540 (fun _ => 0)) := by rw [e_131]; exact upH_old z_373 n_131
  have ne_397 : a_71 ≠ a_131 := fresh_ne z_373 n_131
  have z_398 : h_131 a_80 = some (aA 0 540 (fun _ => 0)) := by rw [e_131]; exact upH_old z_374 n_131
  have ne_399 : a_80 ≠ a_131 := fresh_ne z_374 n_131
  have z_400 : h_131 a_92 = some (aA 0 5 (fun _ => 0)) := by rw [e_131]; exact upH_old z_375 n_131
  have ne_401 : a_92 ≠ a_131 := fresh_ne z_375 n_131
  have z_402 : h_131 a_100 = some (aA 0 20 (fun _ => 0)) := by rw [e_131]; exact upH_old z_376 n_131
  have ne_403 : a_100 ≠ a_131 := fresh_ne z_376 n_131
  have z_404 : h_131 a_107 = some (aA 0 5 (fun _ => 0)) := by rw [e_131]; exact upH_old z_377 n_131
  have ne_405 : a_107 ≠ a_131 := fresh_ne z_377 n_131
  have z_406 : h_131 a_115 = some (aA 1 20 (fun _ => 0)) := by rw [e_131]; exact upH_old z_378 n_131
  have z_407 : h_131 a_123 = some (aA 0 60 (fun _ => 0)) := by rw [e_131]; exact upH_old z_379 n_131
  have ne_408 : a_123 ≠ a_131 := fresh_ne z_379 n_131
  have z_409 : h_131 o = some (aO 1 [IV 0, .ref a_7, .ref a_15, .ref a_23, .ref a_30, .ref a_37, IV 0, .ref a_45, .ref a_53, IV 0, .ref a_62, .ref a_71, .ref a_80, IV 0, IV 0, IV 0, IV 0, IV 0, .ref a_92, IV 0, .ref a_100, .ref a_107, .ref a_115, .ref a_123, .null, .null, IV 0, .null, .null, .null, .null, .null, .null, .null, .null, .null, .null, IV 0, IV 0, .null, .null, .null, IV 0, IV 0]) := by rw [e_131]; exact upH_old z_380 n_131
  have z_410 : h_131 a_131 = some (aA 0 60 (fun _ => 0)) := by rw [e_131]; exact upH_self _ _ _
  have nd_411 : [a_131, a_123, a_115, a_107, a_100, a_92, a_80, a_71, a_62, a_53, a_45, a_37, a_30, a_23, a_15, a_7].Nodup ∧ ∀ b ∈ [a_131, a_123, a_115, a_107, a_100, a_92, a_80, a_71, a_62, a_53, a_45, a_37, a_30, a_23, a_15, a_7], h_131 b ≠ none := nd_new nd_381 n_131 e_131
  have no_a_131 : a_131 ≠ o := Ne.symm (fresh_ne z_380 n_131)
  refine j1_putF rfl fp_X2_60_X2 z_409 (Nat.le_of_ble_eq_true rfl) rfl rfl dX2_init_133 (fun h_133 e_133 => ?_)
  have z_412 : h_133 a_7 = some (aA 1 72 (fun _ => 0)) := by rw [e_133]; exact upH_k z_382 z_409 (by intro z; cases z)
  have z_413 : h_133 a_15 = some (aA 0 36 (fun _ => 0)) := by rw [e_133]; exact upH_k z_383 z_409 (by intro z; cases z)
  have z_414 : h_133 a_23 = some (aA 0 36 (fun _ => 0)) := by rw [e_133]; exact upH_k z_385 z_409 (by intro z; cases z)
  have z_415 : h_133 a_30 = some (aA 0 5 (fun _ => 0)) := by rw [e_133]; exact upH_k z_387 z_409 (by intro z; cases z)
  have z_416 : h_133 a_37 = some (aA 0 5 (fun _ => 0)) := by rw [e_133]; exact upH_k z_389 z_409 (by intro z; cases z)
  have z_417 : h_133 a_45 = some (aA 0 20 (fun _ => 0)) := by rw [e_133]; exact upH_k z_391 z_409 (by intro z; cases z)
  have z_418 : h_133 a_53 = some (aA 1 20 (fun _ => 0)) := by rw [e_133]; exact upH_k z_393 z_409 (by intro z; cases z)
  have z_419 : h_133 a_62 = some (aA 0 540 (fun _ => 0)) := by rw [e_133]; exact upH_k z_394 z_409 (by intro z; cases z)
  have z_420 : h_133 a_71 = some (aA 0 540 (fun _ => 0)) := by rw [e_133]; exact upH_k z_396 z_409 (by intro z; cases z)
  have z_421 : h_133 a_80 = some (aA 0 540 (fun _ => 0)) := by rw [e_133]; exact upH_k z_398 z_409 (by intro z; cases z)
  have z_422 : h_133 a_92 = some (aA 0 5 (fun _ => 0)) := by rw [e_133]; exact upH_k z_400 z_409 (by intro z; cases z)
  have z_423 : h_133 a_100 = some (aA 0 20 (fun _ => 0)) := by rw [e_133]; exact upH_k z_402 z_409 (by intro z; cases z)
  have z_424 : h_133 a_107 = some (aA 0 5 (fun _ => 0)) := by rw [e_133]; exact upH_k z_404 z_409 (by intro z; cases z)
  have z_425 : h_133 a_115 = some (aA 1 20 (fun _ => 0)) := by rw [e_133]; exact upH_k z_406 z_409 (by intro z; cases z)
  have z_426 : h_133 a_123 = some (aA 0 60 (fun _ => 0)) := by rw [e_133]; exact upH_k z_407 z_409 (by intro z; cases z)
  have z_427 : h_133 a_131 = some (aA 0 60 (fun _ => 0)) := by rw [e_133]; exact upH_k z_410 z_409 (by intro z; cases z)
  have z_428 : h_133 o = some (aO 1 [IV 0, .ref a_7, .ref a_15, .ref a_23, .ref a_30, .ref a_37, IV 0, .ref a_45, .ref a_53, IV 0, .ref a_62, .ref a_71, .ref a_80, IV 0, IV 0, IV 0, IV 0, IV 0, .ref a_92, IV 0, .ref a_100, .ref a_107, .ref a_115, .ref a_123, .ref a_131, .null, IV 0, .null, .null, .null, .null, .null, .null, .null, .null, .null, .null, IV 0, IV 0, .null, .null, .null, IV 0, IV 0]) := by rw [e_133]; exact upH_self _ _ _
  have nd_429 : [a_131, a_123, a_115, a_107, a_100, a_92, a_80, a_71, a_62, a_53, a_45, a_37, a_30, a_23, a_15, a_7].Nodup ∧ ∀ b ∈ [a_131, a_123, a_115, a_107, a_100, a_92, a_80, a_71, a_62, a_53, a_45, a_37, a_30, a_23, a_15, a_7], h_133 b ≠ none := nd_put nd_411 e_133
  refine j_aload_n (pc := 136) dX2_init_136 rfl ?_
  refine j_bipush (pc := 137) (a := 60) dX2_init_137 (by decide) ?_
  refine j_room (cl' := 13 + 1) (sl' := 3439 + 60) (by omega) (by omega) ?_
  refine j1_newa (i := 60) (N := 60) (atype := .int) hal (Or.inl ⟨rfl, rfl⟩) q141 (by omega) (by omega) (by omega) dX2_init_139 (fun a_139 h_139 n_139 e_139 => ?_)
  have z_430 : h_139 a_7 = some (aA 1 72 (fun _ => 0)) := by rw [e_139]; exact upH_old z_412 n_139
  have z_431 : h_139 a_15 = some (aA 0 36 (fun _ => 0)) := by rw [e_139]; exact upH_old z_413 n_139
  have ne_432 : a_15 ≠ a_139 := fresh_ne z_413 n_139
  have z_433 : h_139 a_23 = some (aA 0 36 (fun _ => 0)) := by rw [e_139]; exact upH_old z_414 n_139
  have ne_434 : a_23 ≠ a_139 := fresh_ne z_414 n_139
  have z_435 : h_139 a_30 = some (aA 0 5 (fun _ => 0)) := by rw [e_139]; exact upH_old z_415 n_139
  have ne_436 : a_30 ≠ a_139 := fresh_ne z_415 n_139
  have z_437 : h_139 a_37 = some (aA 0 5 (fun _ => 0)) := by rw [e_139]; exact upH_old z_416 n_139
  have ne_438 : a_37 ≠ a_139 := fresh_ne z_416 n_139
  have z_439 : h_139 a_45 = some (aA 0 20 (fun _ => 0)) := by rw [e_139]; exact upH_old z_417 n_139
  have ne_440 : a_45 ≠ a_139 := fresh_ne z_417 n_139
  have z_441 : h_139 a_53 = some (aA 1 20 (fun _ => 0)) := by rw [e_139]; exact upH_old z_418 n_139
  have z_442 : h_139 a_62 = some (aA 0 540 (fun _ => 0)) := by rw [e_139]; exact upH_old z_419 n_139
  have ne_443 : a_62 ≠ a_139 := fresh_ne z_419 n_139
  have z_444 : h_139 a_71 = some (aA 0 540 (fun _ => 0)) := by rw [e_139]; exact upH_old z_420 n_139
  have ne_445 : a_71 ≠ a_139 := fresh_ne z_420 n_139
  have z_446 : h_139 a_80 = some (aA 0 540 (fun _ => 0)) := by rw [e_139]; exact upH_old z_421 n_139
  have ne_447 : a_80 ≠ a_139 := fresh_ne z_421 n_139
  have z_448 : h_139 a_92 = some (aA 0 5 (fun _ => 0)) := by rw [e_139]; exact upH_old z_422 n_139
  have ne_449 : a_92 ≠ a_139 := fresh_ne z_422 n_139
  have z_450 : h_139 a_100 = some (aA 0 20 (fun _ => 0)) := by rw [e_139]; exact upH_old z_423 n_139
  have ne_451 : a_100 ≠ a_139 := fresh_ne z_423 n_139
  have z_452 : h_139 a_107 = some (aA 0 5 (fun _ => 0)) := by rw [e_139]; exact upH_old z_424 n_139
  have ne_453 : a_107 ≠ a_139 := fresh_ne z_424 n_139
  have z_454 : h_139 a_115 = some (aA 1 20 (fun _ => 0)) := by rw [e_139]; exact upH_old z_425 n_139
  have z_455 : h_139 a_123 = some (aA 0 60 (fun _ => 0)) := by rw [e_139]; exact upH_old z_426 n_139
  have ne_456 : a_123 ≠ a_139 := fresh_ne z_426 n_139
  have z_457 : h_139 a_131 = some (aA 0 60 (fun _ => 0)) := by rw [e_139]; exact upH_old z_427 n_139
  have ne_458 : a_131 ≠ a_139 := fresh_ne z_427 n_139
  have z_459 : h_139 o = some (aO 1 [IV 0, .ref a_7, .ref a_15, .ref a_23, .ref a_30, .ref a_37, IV 0, .ref a_45, .ref a_53, IV 0, .ref a_62, .ref a_71, .ref a_80, IV 0, IV 0, IV 0, IV 0, IV 0, .ref a_92, IV 0, .ref a_100, .ref a_107, .ref a_115, .ref a_123, .ref a_131, .null, IV 0, .null, .null, .null, .null, .null, .null, .null, .null, .null, .null, IV 0, IV 0, .null, .null, .null, IV 0, IV 0]) := by rw [e_139]; exact upH_old z_428 n_139
  have z_460 : h_139 a_139 = some (aA 0 60 (fun _ => 0)) := by rw [e_139]; exact upH_self _ _ _
  have nd_461 : [a_139, a_131, a_123, a_115, a_107, a_100, a_92, a_80, a_71, a_62, a_53, a_45, a_37, a_30, a_23, a_15, a_7].Nodup ∧ ∀ b ∈ [a_139, a_131, a_123, a_115, a_107, a_100, a_92, a_80, a_71, a_62, a_53, a_45, a_37, a_30, a_23, a_15, a_7], h_139 b ≠ none := nd_new nd_429 n_139 e_139
  have no_a_139 : a_139 ≠ o := Ne.symm (fresh_ne z_428 n_139)
  refine j1_putF rfl fp_X2_63_X2 z_459 (Nat.le_of_ble_eq_true rfl) rfl rfl dX2_init_141 (fun h_141 e_141 => ?_)
  have z_462 : h_141 a_7 = some (aA 1 72 (fun _ => 0)) := by rw [e_141]; exact upH_k z_430 z_459 (by intro z; cases z)
  have z_463 : h_141 a_15 = some (aA 0 36 (fun _ => 0)) := by rw [e_141]; exact upH_k z_431 z_459 (by intro z; cases z)
  have z_464 : h_141 a_23 = some (aA 0 36 (fun _ => 0)) := by rw [e_141]; exact upH_k z_433 z_459 (by intro z; cases z)
  have z_465 : h_141 a_30 = some (aA 0 5 (fun _ => 0)) := by rw [e_141]; exact upH_k z_435 z_459 (by intro z; cases z)
  have z_466 : h_141 a_37 = some (aA 0 5 (fun _ => 0)) := by rw [e_141]; exact upH_k z_437 z_459 (by intro z; cases z)
  have z_467 : h_141 a_45 = some (aA 0 20 (fun _ => 0)) := by rw [e_141]; exact upH_k z_439 z_459 (by intro z; cases z)
  have z_468 : h_141 a_53 = some (aA 1 20 (fun _ => 0)) := by rw [e_141]; exact upH_k z_441 z_459 (by intro z; cases z)
  have z_469 : h_141 a_62 = some (aA 0 540 (fun _ => 0)) := by rw [e_141]; exact upH_k z_442 z_459 (by intro z; cases z)
  have z_470 : h_141 a_71 = some (aA 0 540 (fun _ => 0)) := by rw [e_141]; exact upH_k z_444 z_459 (by intro z; cases z)
  have z_471 : h_141 a_80 = some (aA 0 540 (fun _ => 0)) := by rw [e_141]; exact upH_k z_446 z_459 (by intro z; cases z)
  have z_472 : h_141 a_92 = some (aA 0 5 (fun _ => 0)) := by rw [e_141]; exact upH_k z_448 z_459 (by intro z; cases z)
  have z_473 : h_141 a_100 = some (aA 0 20 (fun _ => 0)) := by rw [e_141]; exact upH_k z_450 z_459 (by intro z; cases z)
  have z_474 : h_141 a_107 = some (aA 0 5 (fun _ => 0)) := by rw [e_141]; exact upH_k z_452 z_459 (by intro z; cases z)
  have z_475 : h_141 a_115 = some (aA 1 20 (fun _ => 0)) := by rw [e_141]; exact upH_k z_454 z_459 (by intro z; cases z)
  have z_476 : h_141 a_123 = some (aA 0 60 (fun _ => 0)) := by rw [e_141]; exact upH_k z_455 z_459 (by intro z; cases z)
  have z_477 : h_141 a_131 = some (aA 0 60 (fun _ => 0)) := by rw [e_141]; exact upH_k z_457 z_459 (by intro z; cases z)
  have z_478 : h_141 a_139 = some (aA 0 60 (fun _ => 0)) := by rw [e_141]; exact upH_k z_460 z_459 (by intro z; cases z)
  have z_479 : h_141 o = some (aO 1 [IV 0, .ref a_7, .ref a_15, .ref a_23, .ref a_30, .ref a_37, IV 0, .ref a_45, .ref a_53, IV 0, .ref a_62, .ref a_71, .ref a_80, IV 0, IV 0, IV 0, IV 0, IV 0, .ref a_92, IV 0, .ref a_100, .ref a_107, .ref a_115, .ref a_123, .ref a_131, .ref a_139, IV 0, .null, .null, .null, .null, .null, .null, .null, .null, .null, .null, IV 0, IV 0, .null, .null, .null, IV 0, IV 0]) := by rw [e_141]; exact upH_self _ _ _
  have nd_480 : [a_139, a_131, a_123, a_115, a_107, a_100, a_92, a_80, a_71, a_62, a_53, a_45, a_37, a_30, a_23, a_15, a_7].Nodup ∧ ∀ b ∈ [a_139, a_131, a_123, a_115, a_107, a_100, a_92, a_80, a_71, a_62, a_53, a_45, a_37, a_30, a_23, a_15, a_7], h_141 b ≠ none := nd_put nd_461 e_141
  refine j_aload_n (pc := 144) dX2_init_144 rfl ?_
  refine j_bipush (pc := 145) (a := 100) dX2_init_145 (by decide) ?_
  refine j_room (cl' := 12 + 1) (sl' := 3339 + 100) (by omega) (by omega) ?_
  refine j1_newa (i := 100) (N := 100) (atype := .int) hal (Or.inl ⟨rfl, rfl⟩) q141 (by omega) (by omega) (by omega) dX2_init_147 (fun a_147 h_147 n_147 e_147 => ?_)
  have z_481 : h_147 a_7 = some (aA 1 72 (fun _ => 0)) := by rw [e_147]; exact upH_old z_462 n_147
  have z_482 : h_147 a_15 = some (aA 0 36 (fun _ => 0)) := by rw [e_147]; exact upH_old z_463 n_147
  have ne_483 : a_15 ≠ a_147 := fresh_ne z_463 n_147
  have z_484 : h_147 a_23 = some (aA 0 36 (fun _ => 0)) := by rw [e_147]; exact upH_old z_464 n_147
  have ne_485 : a_23 ≠ a_147 := fresh_ne z_464 n_147
  have z_486 : h_147 a_30 = some (aA 0 5 (fun _ => 0)) := by rw [e_147]; exact upH_old z_465 n_147
  have ne_487 : a_30 ≠ a_147 := fresh_ne z_465 n_147
  have z_488 : h_147 a_37 = some (aA 0 5 (fun _ => 0)) := by rw [e_147]; exact upH_old z_466 n_147
  have ne_489 : a_37 ≠ a_147 := fresh_ne z_466 n_147
  have z_490 : h_147 a_45 = some (aA 0 20 (fun _ => 0)) := by rw [e_147]; exact upH_old z_467 n_147
  have ne_491 : a_45 ≠ a_147 := fresh_ne z_467 n_147
  have z_492 : h_147 a_53 = some (aA 1 20 (fun _ => 0)) := by rw [e_147]; exact upH_old z_468 n_147
  have z_493 : h_147 a_62 = some (aA 0 540 (fun _ => 0)) := by rw [e_147]; exact upH_old z_469 n_147
  have ne_494 : a_62 ≠ a_147 := fresh_ne z_469 n_147
  have z_495 : h_147 a_71 = some (aA 0 540 (fun _ => 0)) := by rw [e_147]; exact upH_old z_470 n_147
  have ne_496 : a_71 ≠ a_147 := fresh_ne z_470 n_147
  have z_497 : h_147 a_80 = some (aA 0 540 (fun _ => 0)) := by rw [e_147]; exact upH_old z_471 n_147
  have ne_498 : a_80 ≠ a_147 := fresh_ne z_471 n_147
  have z_499 : h_147 a_92 = some (aA 0 5 (fun _ => 0)) := by rw [e_147]; exact upH_old z_472 n_147
  have ne_500 : a_92 ≠ a_147 := fresh_ne z_472 n_147
  have z_501 : h_147 a_100 = some (aA 0 20 (fun _ => 0)) := by rw [e_147]; exact upH_old z_473 n_147
  have ne_502 : a_100 ≠ a_147 := fresh_ne z_473 n_147
  have z_503 : h_147 a_107 = some (aA 0 5 (fun _ => 0)) := by rw [e_147]; exact upH_old z_474 n_147
  have ne_504 : a_107 ≠ a_147 := fresh_ne z_474 n_147
  have z_505 : h_147 a_115 = some (aA 1 20 (fun _ => 0)) := by rw [e_147]; exact upH_old z_475 n_147
  have z_506 : h_147 a_123 = some (aA 0 60 (fun _ => 0)) := by rw [e_147]; exact upH_old z_476 n_147
  have ne_507 : a_123 ≠ a_147 := fresh_ne z_476 n_147
  have z_508 : h_147 a_131 = some (aA 0 60 (fun _ => 0)) := by rw [e_147]; exact upH_old z_477 n_147
  have ne_509 : a_131 ≠ a_147 := fresh_ne z_477 n_147
  have z_510 : h_147 a_139 = some (aA 0 60 (fun _ => 0)) := by rw [e_147]; exact upH_old z_478 n_147
  have ne_511 : a_139 ≠ a_147 := fresh_ne z_478 n_147
  have z_512 : h_147 o = some (aO 1 [IV 0, .ref a_7, .ref a_15, .ref a_23, .ref a_30, .ref a_37, IV 0, .ref a_45, .ref a_53, IV 0, .ref a_62, .ref a_71, .ref a_80, IV 0, IV 0, IV 0, IV 0, IV 0, .ref a_92, IV 0, .ref a_100, .ref a_107, .ref a_115, .ref a_123, .ref a_131, .ref a_139, IV 0, .null, .null, .null, .null, .null, .null, .null, .null, .null, .null, IV 0, IV 0, .null, .null, .null, IV 0, IV 0]) := by rw [e_147]; exact upH_old z_479 n_147
  have z_513 : h_147 a_147 = some (aA 0 100 (fun _ => 0)) := by rw [e_147]; exact upH_self _ _ _
  have nd_514 : [a_147, a_139, a_131, a_123, a_115, a_107, a_100, a_92, a_80, a_71, a_62, a_53, a_45, a_37, a_30, a_23, a_15, a_7].Nodup ∧ ∀ b ∈ [a_147, a_139, a_131, a_123, a_115, a_107, a_100, a_92, a_80, a_71, a_62, a_53, a_45, a_37, a_30, a_23, a_15, a_7], h_147 b ≠ none := nd_new nd_480 n_147 e_147
  have no_a_147 : a_147 ≠ o := Ne.symm (fresh_ne z_479 n_147)
  refine j1_putF rfl fp_X2_66_X2 z_512 (Nat.le_of_ble_eq_true rfl) rfl rfl dX2_init_149 (fun h_149 e_149 => ?_)
  have z_515 : h_149 a_7 = some (aA 1 72 (fun _ => 0)) := by rw [e_149]; exact upH_k z_481 z_512 (by intro z; cases z)
  have z_516 : h_149 a_15 = some (aA 0 36 (fun _ => 0)) := by rw [e_149]; exact upH_k z_482 z_512 (by intro z; cases z)
  have z_517 : h_149 a_23 = some (aA 0 36 (fun _ => 0)) := by rw [e_149]; exact upH_k z_484 z_512 (by intro z; cases z)
  have z_518 : h_149 a_30 = some (aA 0 5 (fun _ => 0)) := by rw [e_149]; exact upH_k z_486 z_512 (by intro z; cases z)
  have z_519 : h_149 a_37 = some (aA 0 5 (fun _ => 0)) := by rw [e_149]; exact upH_k z_488 z_512 (by intro z; cases z)
  have z_520 : h_149 a_45 = some (aA 0 20 (fun _ => 0)) := by rw [e_149]; exact upH_k z_490 z_512 (by intro z; cases z)
  have z_521 : h_149 a_53 = some (aA 1 20 (fun _ => 0)) := by rw [e_149]; exact upH_k z_492 z_512 (by intro z; cases z)
  have z_522 : h_149 a_62 = some (aA 0 540 (fun _ => 0)) := by rw [e_149]; exact upH_k z_493 z_512 (by intro z; cases z)
  have z_523 : h_149 a_71 = some (aA 0 540 (fun _ => 0)) := by rw [e_149]; exact upH_k z_495 z_512 (by intro z; cases z)
  have z_524 : h_149 a_80 = some (aA 0 540 (fun _ => 0)) := by rw [e_149]; exact upH_k z_497 z_512 (by intro z; cases z)
  have z_525 : h_149 a_92 = some (aA 0 5 (fun _ => 0)) := by rw [e_149]; exact upH_k z_499 z_512 (by intro z; cases z)
  have z_526 : h_149 a_100 = some (aA 0 20 (fun _ => 0)) := by rw [e_149]; exact upH_k z_501 z_512 (by intro z; cases z)
  have z_527 : h_149 a_107 = some (aA 0 5 (fun _ => 0)) := by rw [e_149]; exact upH_k z_503 z_512 (by intro z; cases z)
  have z_528 : h_149 a_115 = some (aA 1 20 (fun _ => 0)) := by rw [e_149]; exact upH_k z_505 z_512 (by intro z; cases z)
  have z_529 : h_149 a_123 = some (aA 0 60 (fun _ => 0)) := by rw [e_149]; exact upH_k z_506 z_512 (by intro z; cases z)
  have z_530 : h_149 a_131 = some (aA 0 60 (fun _ => 0)) := by rw [e_149]; exact upH_k z_508 z_512 (by intro z; cases z)
  have z_531 : h_149 a_139 = some (aA 0 60 (fun _ => 0)) := by rw [e_149]; exact upH_k z_510 z_512 (by intro z; cases z)
  have z_532 : h_149 a_147 = some (aA 0 100 (fun _ => 0)) := by rw [e_149]; exact upH_k z_513 z_512 (by intro z; cases z)
  have z_533 : h_149 o = some (aO 1 [IV 0, .ref a_7, .ref a_15, .ref a_23, .ref a_30, .ref a_37, IV 0, .ref a_45, .ref a_53, IV 0, .ref a_62, .ref a_71, .ref a_80, IV 0, IV 0, IV 0, IV 0, IV 0, .ref a_92, IV 0, .ref a_100, .ref a_107, .ref a_115, .ref a_123, .ref a_131, .ref a_139, IV 0, .ref a_147, .null, .null, .null, .null, .null, .null, .null, .null, .null, IV 0, IV 0, .null, .null, .null, IV 0, IV 0]) := by rw [e_149]; exact upH_self _ _ _
  have nd_534 : [a_147, a_139, a_131, a_123, a_115, a_107, a_100, a_92, a_80, a_71, a_62, a_53, a_45, a_37, a_30, a_23, a_15, a_7].Nodup ∧ ∀ b ∈ [a_147, a_139, a_131, a_123, a_115, a_107, a_100, a_92, a_80, a_71, a_62, a_53, a_45, a_37, a_30, a_23, a_15, a_7], h_149 b ≠ none := nd_put nd_514 e_149
  refine j_aload_n (pc := 152) dX2_init_152 rfl ?_
  refine j_iconst (pc := 153) dX2_init_153 rfl ?_
  refine j_room (cl' := 11 + 1) (sl' := 3334 + 5) (by omega) (by omega) ?_
  refine j1_newa (i := 5) (N := 5) (atype := .int) hal (Or.inl ⟨rfl, rfl⟩) q141 (by omega) (by omega) (by omega) dX2_init_154 (fun a_154 h_154 n_154 e_154 => ?_)
  have z_535 : h_154 a_7 = some (aA 1 72 (fun _ => 0)) := by rw [e_154]; exact upH_old z_515 n_154
  have z_536 : h_154 a_15 = some (aA 0 36 (fun _ => 0)) := by rw [e_154]; exact upH_old z_516 n_154
  have ne_537 : a_15 ≠ a_154 := fresh_ne z_516 n_154
  have z_538 : h_154 a_23 = some (aA 0 36 (fun _ => 0)) := by rw [e_154]; exact upH_old z_517 n_154
  have ne_539 : a_23 ≠ a_154 := fresh_ne z_517 n_154
  have z_540 : h_154 a_30 = some (aA 0 5 (fun _ => 0)) := by rw [e_154]; exact upH_old z_518 n_154
  have ne_541 : a_30 ≠ a_154 := fresh_ne z_518 n_154
  have z_542 : h_154 a_37 = some (aA 0 5 (fun _ => 0)) := by rw [e_154]; exact upH_old z_519 n_154
  have ne_543 : a_37 ≠ a_154 := fresh_ne z_519 n_154
  have z_544 : h_154 a_45 = some (aA 0 20 (fun _ => 0)) := by rw [e_154]; exact upH_old z_520 n_154
  have ne_545 : a_45 ≠ a_154 := fresh_ne z_520 n_154
  have z_546 : h_154 a_53 = some (aA 1 20 (fun _ => 0)) := by rw [e_154]; exact upH_old z_521 n_154
  have z_547 : h_154 a_62 = some (aA 0 540 (fun _ => 0)) := by rw [e_154]; exact upH_old z_522 n_154
  have ne_548 : a_62 ≠ a_154 := fresh_ne z_522 n_154
  have z_549 : h_154 a_71 = some (aA 0 540 (fun _ => 0)) := by rw [e_154]; exact upH_old z_523 n_154
  have ne_550 : a_71 ≠ a_154 := fresh_ne z_523 n_154
  have z_551 : h_154 a_80 = some (aA 0 540 (fun _ => 0)) := by rw [e_154]; exact upH_old z_524 n_154
  have ne_552 : a_80 ≠ a_154 := fresh_ne z_524 n_154
  have z_553 : h_154 a_92 = some (aA 0 5 (fun _ => 0)) := by rw [e_154]; exact upH_old z_525 n_154
  have ne_554 : a_92 ≠ a_154 := fresh_ne z_525 n_154
  have z_555 : h_154 a_100 = some (aA 0 20 (fun _ => 0)) := by rw [e_154]; exact upH_old z_526 n_154
  have ne_556 : a_100 ≠ a_154 := fresh_ne z_526 n_154
  have z_557 : h_154 a_107 = some (aA 0 5 (fun _ => 0)) := by rw [e_154]; exact upH_old z_527 n_154
  have ne_558 : a_107 ≠ a_154 := fresh_ne z_527 n_154
  have z_559 : h_154 a_115 = some (aA 1 20 (fun _ => 0)) := by rw [e_154]; exact upH_old z_528 n_154
  have z_560 : h_154 a_123 = some (aA 0 60 (fun _ => 0)) := by rw [e_154]; exact upH_old z_529 n_154
  have ne_561 : a_123 ≠ a_154 := fresh_ne z_529 n_154
  have z_562 : h_154 a_131 = some (aA 0 60 (fun _ => 0)) := by rw [e_154]; exact upH_old z_530 n_154
  have ne_563 : a_131 ≠ a_154 := fresh_ne z_530 n_154
  have z_564 : h_154 a_139 = some (aA 0 60 (fun _ => 0)) := by rw [e_154]; exact upH_old z_531 n_154
  have ne_565 : a_139 ≠ a_154 := fresh_ne z_531 n_154
  have z_566 : h_154 a_147 = some (aA 0 100 (fun _ => 0)) := by rw [e_154]; exact upH_old z_532 n_154
  have ne_567 : a_147 ≠ a_154 := fresh_ne z_532 n_154
  have z_568 : h_154 o = some (aO 1 [IV 0, .ref a_7, .ref a_15, .ref a_23, .ref a_30, .ref a_37, IV 0, .ref a_45, .ref a_53, IV 0, .ref a_62, .ref a_71, .ref a_80, IV 0, IV 0, IV 0, IV 0, IV 0, .ref a_92, IV 0, .ref a_100, .ref a_107, .ref a_115, .ref a_123, .ref a_131, .ref a_139, IV 0, .ref a_147, .null, .null, .null, .null, .null, .null, .null, .null, .null, IV 0, IV 0, .null, .null, .null, IV 0, IV 0]) := by rw [e_154]; exact upH_old z_533 n_154
  have z_569 : h_154 a_154 = some (aA 0 5 (fun _ => 0)) := by rw [e_154]; exact upH_self _ _ _
  have nd_570 : [a_154, a_147, a_139, a_131, a_123, a_115, a_107, a_100, a_92, a_80, a_71, a_62, a_53, a_45, a_37, a_30, a_23, a_15, a_7].Nodup ∧ ∀ b ∈ [a_154, a_147, a_139, a_131, a_123, a_115, a_107, a_100, a_92, a_80, a_71, a_62, a_53, a_45, a_37, a_30, a_23, a_15, a_7], h_154 b ≠ none := nd_new nd_534 n_154 e_154
  have no_a_154 : a_154 ≠ o := Ne.symm (fresh_ne z_533 n_154)
  refine j1_putF rfl fp_X2_69_X2 z_568 (Nat.le_of_ble_eq_true rfl) rfl rfl dX2_init_156 (fun h_156 e_156 => ?_)
  have z_571 : h_156 a_7 = some (aA 1 72 (fun _ => 0)) := by rw [e_156]; exact upH_k z_535 z_568 (by intro z; cases z)
  have z_572 : h_156 a_15 = some (aA 0 36 (fun _ => 0)) := by rw [e_156]; exact upH_k z_536 z_568 (by intro z; cases z)
  have z_573 : h_156 a_23 = some (aA 0 36 (fun _ => 0)) := by rw [e_156]; exact upH_k z_538 z_568 (by intro z; cases z)
  have z_574 : h_156 a_30 = some (aA 0 5 (fun _ => 0)) := by rw [e_156]; exact upH_k z_540 z_568 (by intro z; cases z)
  have z_575 : h_156 a_37 = some (aA 0 5 (fun _ => 0)) := by rw [e_156]; exact upH_k z_542 z_568 (by intro z; cases z)
  have z_576 : h_156 a_45 = some (aA 0 20 (fun _ => 0)) := by rw [e_156]; exact upH_k z_544 z_568 (by intro z; cases z)
  have z_577 : h_156 a_53 = some (aA 1 20 (fun _ => 0)) := by rw [e_156]; exact upH_k z_546 z_568 (by intro z; cases z)
  have z_578 : h_156 a_62 = some (aA 0 540 (fun _ => 0)) := by rw [e_156]; exact upH_k z_547 z_568 (by intro z; cases z)
  have z_579 : h_156 a_71 = some (aA 0 540 (fun _ => 0)) := by rw [e_156]; exact upH_k z_549 z_568 (by intro z; cases z)
  have z_580 : h_156 a_80 = some (aA 0 540 (fun _ => 0)) := by rw [e_156]; exact upH_k z_551 z_568 (by intro z; cases z)
  have z_581 : h_156 a_92 = some (aA 0 5 (fun _ => 0)) := by rw [e_156]; exact upH_k z_553 z_568 (by intro z; cases z)
  have z_582 : h_156 a_100 = some (aA 0 20 (fun _ => 0)) := by rw [e_156]; exact upH_k z_555 z_568 (by intro z; cases z)
  have z_583 : h_156 a_107 = some (aA 0 5 (fun _ => 0)) := by rw [e_156]; exact upH_k z_557 z_568 (by intro z; cases z)
  have z_584 : h_156 a_115 = some (aA 1 20 (fun _ => 0)) := by rw [e_156]; exact upH_k z_559 z_568 (by intro z; cases z)
  have z_585 : h_156 a_123 = some (aA 0 60 (fun _ => 0)) := by rw [e_156]; exact upH_k z_560 z_568 (by intro z; cases z)
  have z_586 : h_156 a_131 = some (aA 0 60 (fun _ => 0)) := by rw [e_156]; exact upH_k z_562 z_568 (by intro z; cases z)
  have z_587 : h_156 a_139 = some (aA 0 60 (fun _ => 0)) := by rw [e_156]; exact upH_k z_564 z_568 (by intro z; cases z)
  have z_588 : h_156 a_147 = some (aA 0 100 (fun _ => 0)) := by rw [e_156]; exact upH_k z_566 z_568 (by intro z; cases z)
  have z_589 : h_156 a_154 = some (aA 0 5 (fun _ => 0)) := by rw [e_156]; exact upH_k z_569 z_568 (by intro z; cases z)
  have z_590 : h_156 o = some (aO 1 [IV 0, .ref a_7, .ref a_15, .ref a_23, .ref a_30, .ref a_37, IV 0, .ref a_45, .ref a_53, IV 0, .ref a_62, .ref a_71, .ref a_80, IV 0, IV 0, IV 0, IV 0, IV 0, .ref a_92, IV 0, .ref a_100, .ref a_107, .ref a_115, .ref a_123, .ref a_131, .ref a_139, IV 0, .ref a_147, .ref a_154, .null, .null, .null, .null, .null, .null, .null, .null, IV 0, IV 0, .null, .null, .null, IV 0, IV 0]) := by rw [e_156]; exact upH_self _ _ _
  have nd_591 : [a_154, a_147, a_139, a_131, a_123, a_115, a_107, a_100, a_92, a_80, a_71, a_62, a_53, a_45, a_37, a_30, a_23, a_15, a_7].Nodup ∧ ∀ b ∈ [a_154, a_147, a_139, a_131, a_123, a_115, a_107, a_100, a_92, a_80, a_71, a_62, a_53, a_45, a_37, a_30, a_23, a_15, a_7], h_156 b ≠ none := nd_put nd_570 e_156
  refine j_aload_n (pc := 159) dX2_init_159 rfl ?_
  refine j_sipush (pc := 160) (a := 240) dX2_init_160 (by decide) ?_
  refine j_room (cl' := 10 + 1) (sl' := 3094 + 240) (by omega) (by omega) ?_
  refine j1_newa (i := 240) (N := 240) (atype := .int) hal (Or.inl ⟨rfl, rfl⟩) q141 (by omega) (by omega) (by omega) dX2_init_163 (fun a_163 h_163 n_163 e_163 => ?_)
  have z_592 : h_163 a_7 = some (aA 1 72 (fun _ => 0)) := by rw [e_163]; exact upH_old z_571 n_163
  have z_593 : h_163 a_15 = some (aA 0 36 (fun _ => 0)) := by rw [e_163]; exact upH_old z_572 n_163
  have ne_594 : a_15 ≠ a_163 := fresh_ne z_572 n_163
  have z_595 : h_163 a_23 = some (aA 0 36 (fun _ => 0)) := by rw [e_163]; exact upH_old z_573 n_163
  have ne_596 : a_23 ≠ a_163 := fresh_ne z_573 n_163
  have z_597 : h_163 a_30 = some (aA 0 5 (fun _ => 0)) := by rw [e_163]; exact upH_old z_574 n_163
  have ne_598 : a_30 ≠ a_163 := fresh_ne z_574 n_163
  have z_599 : h_163 a_37 = some (aA 0 5 (fun _ => 0)) := by rw [e_163]; exact upH_old z_575 n_163
  have ne_600 : a_37 ≠ a_163 := fresh_ne z_575 n_163
  have z_601 : h_163 a_45 = some (aA 0 20 (fun _ => 0)) := by rw [e_163]; exact upH_old z_576 n_163
  have ne_602 : a_45 ≠ a_163 := fresh_ne z_576 n_163
  have z_603 : h_163 a_53 = some (aA 1 20 (fun _ => 0)) := by rw [e_163]; exact upH_old z_577 n_163
  have z_604 : h_163 a_62 = some (aA 0 540 (fun _ => 0)) := by rw [e_163]; exact upH_old z_578 n_163
  have ne_605 : a_62 ≠ a_163 := fresh_ne z_578 n_163
  have z_606 : h_163 a_71 = some (aA 0 540 (fun _ => 0)) := by rw [e_163]; exact upH_old z_579 n_163
  have ne_607 : a_71 ≠ a_163 := fresh_ne z_579 n_163
  have z_608 : h_163 a_80 = some (aA 0 540 (fun _ => 0)) := by rw [e_163]; exact upH_old z_580 n_163
  have ne_609 : a_80 ≠ a_163 := fresh_ne z_580 n_163
  have z_610 : h_163 a_92 = some (aA 0 5 (fun _ => 0)) := by rw [e_163]; exact upH_old z_581 n_163
  have ne_611 : a_92 ≠ a_163 := fresh_ne z_581 n_163
  have z_612 : h_163 a_100 = some (aA 0 20 (fun _ => 0)) := by rw [e_163]; exact upH_old z_582 n_163
  have ne_613 : a_100 ≠ a_163 := fresh_ne z_582 n_163
  have z_614 : h_163 a_107 = some (aA 0 5 (fun _ => 0)) := by rw [e_163]; exact upH_old z_583 n_163
  have ne_615 : a_107 ≠ a_163 := fresh_ne z_583 n_163
  have z_616 : h_163 a_115 = some (aA 1 20 (fun _ => 0)) := by rw [e_163]; exact upH_old z_584 n_163
  have z_617 : h_163 a_123 = some (aA 0 60 (fun _ => 0)) := by rw [e_163]; exact upH_old z_585 n_163
  have ne_618 : a_123 ≠ a_163 := fresh_ne z_585 n_163
  have z_619 : h_163 a_131 = some (aA 0 60 (fun _ => 0)) := by rw [e_163]; exact upH_old z_586 n_163
  have ne_620 : a_131 ≠ a_163 := fresh_ne z_586 n_163
  have z_621 : h_163 a_139 = some (aA 0 60 (fun _ => 0)) := by rw [e_163]; exact upH_old z_587 n_163
  have ne_622 : a_139 ≠ a_163 := fresh_ne z_587 n_163
  have z_623 : h_163 a_147 = some (aA 0 100 (fun _ => 0)) := by rw [e_163]; exact upH_old z_588 n_163
  have ne_624 : a_147 ≠ a_163 := fresh_ne z_588 n_163
  have z_625 : h_163 a_154 = some (aA 0 5 (fun _ => 0)) := by rw [e_163]; exact upH_old z_589 n_163
  have ne_626 : a_154 ≠ a_163 := fresh_ne z_589 n_163
  have z_627 : h_163 o = some (aO 1 [IV 0, .ref a_7, .ref a_15, .ref a_23, .ref a_30, .ref a_37, IV 0, .ref a_45, .ref a_53, IV 0, .ref a_62, .ref a_71, .ref a_80, IV 0, IV 0, IV 0, IV 0, IV 0, .ref a_92, IV 0, .ref a_100, .ref a_107, .ref a_115, .ref a_123, .ref a_131, .ref a_139, IV 0, .ref a_147, .ref a_154, .null, .null, .null, .null, .null, .null, .null, .null, IV 0, IV 0, .null, .null, .null, IV 0, IV 0]) := by rw [e_163]; exact upH_old z_590 n_163
  have z_628 : h_163 a_163 = some (aA 0 240 (fun _ => 0)) := by rw [e_163]; exact upH_self _ _ _
  have nd_629 : [a_163, a_154, a_147, a_139, a_131, a_123, a_115, a_107, a_100, a_92, a_80, a_71, a_62, a_53, a_45, a_37, a_30, a_23, a_15, a_7].Nodup ∧ ∀ b ∈ [a_163, a_154, a_147, a_139, a_131, a_123, a_115, a_107, a_100, a_92, a_80, a_71, a_62, a_53, a_45, a_37, a_30, a_23, a_15, a_7], h_163 b ≠ none := nd_new nd_591 n_163 e_163
  have no_a_163 : a_163 ≠ o := Ne.symm (fresh_ne z_590 n_163)
  refine j1_putF rfl fp_X2_72_X2 z_627 (Nat.le_of_ble_eq_true rfl) rfl rfl dX2_init_165 (fun h_165 e_165 => ?_)
  have z_630 : h_165 a_7 = some (aA 1 72 (fun _ => 0)) := by rw [e_165]; exact upH_k z_592 z_627 (by intro z; cases z)
  have z_631 : h_165 a_15 = some (aA 0 36 (fun _ => 0)) := by rw [e_165]; exact upH_k z_593 z_627 (by intro z; cases z)
  have z_632 : h_165 a_23 = some (aA 0 36 (fun _ => 0)) := by rw [e_165]; exact upH_k z_595 z_627 (by intro z; cases z)
  have z_633 : h_165 a_30 = some (aA 0 5 (fun _ => 0)) := by rw [e_165]; exact upH_k z_597 z_627 (by intro z; cases z)
  have z_634 : h_165 a_37 = some (aA 0 5 (fun _ => 0)) := by rw [e_165]; exact upH_k z_599 z_627 (by intro z; cases z)
  have z_635 : h_165 a_45 = some (aA 0 20 (fun _ => 0)) := by rw [e_165]; exact upH_k z_601 z_627 (by intro z; cases z)
  have z_636 : h_165 a_53 = some (aA 1 20 (fun _ => 0)) := by rw [e_165]; exact upH_k z_603 z_627 (by intro z; cases z)
  have z_637 : h_165 a_62 = some (aA 0 540 (fun _ => 0)) := by rw [e_165]; exact upH_k z_604 z_627 (by intro z; cases z)
  have z_638 : h_165 a_71 = some (aA 0 540 (fun _ => 0)) := by rw [e_165]; exact upH_k z_606 z_627 (by intro z; cases z)
  have z_639 : h_165 a_80 = some (aA 0 540 (fun _ => 0)) := by rw [e_165]; exact upH_k z_608 z_627 (by intro z; cases z)
  have z_640 : h_165 a_92 = some (aA 0 5 (fun _ => 0)) := by rw [e_165]; exact upH_k z_610 z_627 (by intro z; cases z)
  have z_641 : h_165 a_100 = some (aA 0 20 (fun _ => 0)) := by rw [e_165]; exact upH_k z_612 z_627 (by intro z; cases z)
  have z_642 : h_165 a_107 = some (aA 0 5 (fun _ => 0)) := by rw [e_165]; exact upH_k z_614 z_627 (by intro z; cases z)
  have z_643 : h_165 a_115 = some (aA 1 20 (fun _ => 0)) := by rw [e_165]; exact upH_k z_616 z_627 (by intro z; cases z)
  have z_644 : h_165 a_123 = some (aA 0 60 (fun _ => 0)) := by rw [e_165]; exact upH_k z_617 z_627 (by intro z; cases z)
  have z_645 : h_165 a_131 = some (aA 0 60 (fun _ => 0)) := by rw [e_165]; exact upH_k z_619 z_627 (by intro z; cases z)
  have z_646 : h_165 a_139 = some (aA 0 60 (fun _ => 0)) := by rw [e_165]; exact upH_k z_621 z_627 (by intro z; cases z)
  have z_647 : h_165 a_147 = some (aA 0 100 (fun _ => 0)) := by rw [e_165]; exact upH_k z_623 z_627 (by intro z; cases z)
  have z_648 : h_165 a_154 = some (aA 0 5 (fun _ => 0)) := by rw [e_165]; exact upH_k z_625 z_627 (by intro z; cases z)
  have z_649 : h_165 a_163 = some (aA 0 240 (fun _ => 0)) := by rw [e_165]; exact upH_k z_628 z_627 (by intro z; cases z)
  have z_650 : h_165 o = some (aO 1 [IV 0, .ref a_7, .ref a_15, .ref a_23, .ref a_30, .ref a_37, IV 0, .ref a_45, .ref a_53, IV 0, .ref a_62, .ref a_71, .ref a_80, IV 0, IV 0, IV 0, IV 0, IV 0, .ref a_92, IV 0, .ref a_100, .ref a_107, .ref a_115, .ref a_123, .ref a_131, .ref a_139, IV 0, .ref a_147, .ref a_154, .ref a_163, .null, .null, .null, .null, .null, .null, .null, IV 0, IV 0, .null, .null, .null, IV 0, IV 0]) := by rw [e_165]; exact upH_self _ _ _
  have nd_651 : [a_163, a_154, a_147, a_139, a_131, a_123, a_115, a_107, a_100, a_92, a_80, a_71, a_62, a_53, a_45, a_37, a_30, a_23, a_15, a_7].Nodup ∧ ∀ b ∈ [a_163, a_154, a_147, a_139, a_131, a_123, a_115, a_107, a_100, a_92, a_80, a_71, a_62, a_53, a_45, a_37, a_30, a_23, a_15, a_7], h_165 b ≠ none := nd_put nd_629 e_165
  refine j_aload_n (pc := 168) dX2_init_168 rfl ?_
  refine j_bipush (pc := 169) (a := 40) dX2_init_169 (by decide) ?_
  refine j_room (cl' := 9 + 1) (sl' := 3054 + 40) (by omega) (by omega) ?_
  refine j1_newa (i := 40) (N := 40) (atype := .int) hal (Or.inl ⟨rfl, rfl⟩) q141 (by omega) (by omega) (by omega) dX2_init_171 (fun a_171 h_171 n_171 e_171 => ?_)
  have z_652 : h_171 a_7 = some (aA 1 72 (fun _ => 0)) := by rw [e_171]; exact upH_old z_630 n_171
  have z_653 : h_171 a_15 = some (aA 0 36 (fun _ => 0)) := by rw [e_171]; exact upH_old z_631 n_171
  have ne_654 : a_15 ≠ a_171 := fresh_ne z_631 n_171
  have z_655 : h_171 a_23 = some (aA 0 36 (fun _ => 0)) := by rw [e_171]; exact upH_old z_632 n_171
  have ne_656 : a_23 ≠ a_171 := fresh_ne z_632 n_171
  have z_657 : h_171 a_30 = some (aA 0 5 (fun _ => 0)) := by rw [e_171]; exact upH_old z_633 n_171
  have ne_658 : a_30 ≠ a_171 := fresh_ne z_633 n_171
  have z_659 : h_171 a_37 = some (aA 0 5 (fun _ => 0)) := by rw [e_171]; exact upH_old z_634 n_171
  have ne_660 : a_37 ≠ a_171 := fresh_ne z_634 n_171
  have z_661 : h_171 a_45 = some (aA 0 20 (fun _ => 0)) := by rw [e_171]; exact upH_old z_635 n_171
  have ne_662 : a_45 ≠ a_171 := fresh_ne z_635 n_171
  have z_663 : h_171 a_53 = some (aA 1 20 (fun _ => 0)) := by rw [e_171]; exact upH_old z_636 n_171
  have z_664 : h_171 a_62 = some (aA 0 540 (fun _ => 0)) := by rw [e_171]; exact upH_old z_637 n_171
  have ne_665 : a_62 ≠ a_171 := fresh_ne z_637 n_171
  have z_666 : h_171 a_71 = some (aA 0 540 (fun _ => 0)) := by rw [e_171]; exact upH_old z_638 n_171
  have ne_667 : a_71 ≠ a_171 := fresh_ne z_638 n_171
  have z_668 : h_171 a_80 = some (aA 0 540 (fun _ => 0)) := by rw [e_171]; exact upH_old z_639 n_171
  have ne_669 : a_80 ≠ a_171 := fresh_ne z_639 n_171
  have z_670 : h_171 a_92 = some (aA 0 5 (fun _ => 0)) := by rw [e_171]; exact upH_old z_640 n_171
  have ne_671 : a_92 ≠ a_171 := fresh_ne z_640 n_171
  have z_672 : h_171 a_100 = some (aA 0 20 (fun _ => 0)) := by rw [e_171]; exact upH_old z_641 n_171
  have ne_673 : a_100 ≠ a_171 := fresh_ne z_641 n_171
  have z_674 : h_171 a_107 = some (aA 0 5 (fun _ => 0)) := by rw [e_171]; exact upH_old z_642 n_171
  have ne_675 : a_107 ≠ a_171 := fresh_ne z_642 n_171
  have z_676 : h_171 a_115 = some (aA 1 20 (fun _ => 0)) := by rw [e_171]; exact upH_old z_643 n_171
  have z_677 : h_171 a_123 = some (aA 0 60 (fun _ => 0)) := by rw [e_171]; exact upH_old z_644 n_171
  have ne_678 : a_123 ≠ a_171 := fresh_ne z_644 n_171
  have z_679 : h_171 a_131 = some (aA 0 60 (fun _ => 0)) := by rw [e_171]; exact upH_old z_645 n_171
  have ne_680 : a_131 ≠ a_171 := fresh_ne z_645 n_171
  have z_681 : h_171 a_139 = some (aA 0 60 (fun _ => 0)) := by rw [e_171]; exact upH_old z_646 n_171
  have ne_682 : a_139 ≠ a_171 := fresh_ne z_646 n_171
  have z_683 : h_171 a_147 = some (aA 0 100 (fun _ => 0)) := by rw [e_171]; exact upH_old z_647 n_171
  have ne_684 : a_147 ≠ a_171 := fresh_ne z_647 n_171
  have z_685 : h_171 a_154 = some (aA 0 5 (fun _ => 0)) := by rw [e_171]; exact upH_old z_648 n_171
  have ne_686 : a_154 ≠ a_171 := fresh_ne z_648 n_171
  have z_687 : h_171 a_163 = some (aA 0 240 (fun _ => 0)) := by rw [e_171]; exact upH_old z_649 n_171
  have ne_688 : a_163 ≠ a_171 := fresh_ne z_649 n_171
  have z_689 : h_171 o = some (aO 1 [IV 0, .ref a_7, .ref a_15, .ref a_23, .ref a_30, .ref a_37, IV 0, .ref a_45, .ref a_53, IV 0, .ref a_62, .ref a_71, .ref a_80, IV 0, IV 0, IV 0, IV 0, IV 0, .ref a_92, IV 0, .ref a_100, .ref a_107, .ref a_115, .ref a_123, .ref a_131, .ref a_139, IV 0, .ref a_147, .ref a_154, .ref a_163, .null, .null, .null, .null, .null, .null, .null, IV 0, IV 0, .null, .null, .null, IV 0, IV 0]) := by rw [e_171]; exact upH_old z_650 n_171
  have z_690 : h_171 a_171 = some (aA 0 40 (fun _ => 0)) := by rw [e_171]; exact upH_self _ _ _
  have nd_691 : [a_171, a_163, a_154, a_147, a_139, a_131, a_123, a_115, a_107, a_100, a_92, a_80, a_71, a_62, a_53, a_45, a_37, a_30, a_23, a_15, a_7].Nodup ∧ ∀ b ∈ [a_171, a_163, a_154, a_147, a_139, a_131, a_123, a_115, a_107, a_100, a_92, a_80, a_71, a_62, a_53, a_45, a_37, a_30, a_23, a_15, a_7], h_171 b ≠ none := nd_new nd_651 n_171 e_171
  have no_a_171 : a_171 ≠ o := Ne.symm (fresh_ne z_650 n_171)
  refine j1_putF rfl fp_X2_75_X2 z_689 (Nat.le_of_ble_eq_true rfl) rfl rfl dX2_init_173 (fun h_173 e_173 => ?_)
  have z_692 : h_173 a_7 = some (aA 1 72 (fun _ => 0)) := by rw [e_173]; exact upH_k z_652 z_689 (by intro z; cases z)
  have z_693 : h_173 a_15 = some (aA 0 36 (fun _ => 0)) := by rw [e_173]; exact upH_k z_653 z_689 (by intro z; cases z)
  have z_694 : h_173 a_23 = some (aA 0 36 (fun _ => 0)) := by rw [e_173]; exact upH_k z_655 z_689 (by intro z; cases z)
  have z_695 : h_173 a_30 = some (aA 0 5 (fun _ => 0)) := by rw [e_173]; exact upH_k z_657 z_689 (by intro z; cases z)
  have z_696 : h_173 a_37 = some (aA 0 5 (fun _ => 0)) := by rw [e_173]; exact upH_k z_659 z_689 (by intro z; cases z)
  have z_697 : h_173 a_45 = some (aA 0 20 (fun _ => 0)) := by rw [e_173]; exact upH_k z_661 z_689 (by intro z; cases z)
  have z_698 : h_173 a_53 = some (aA 1 20 (fun _ => 0)) := by rw [e_173]; exact upH_k z_663 z_689 (by intro z; cases z)
  have z_699 : h_173 a_62 = some (aA 0 540 (fun _ => 0)) := by rw [e_173]; exact upH_k z_664 z_689 (by intro z; cases z)
  have z_700 : h_173 a_71 = some (aA 0 540 (fun _ => 0)) := by rw [e_173]; exact upH_k z_666 z_689 (by intro z; cases z)
  have z_701 : h_173 a_80 = some (aA 0 540 (fun _ => 0)) := by rw [e_173]; exact upH_k z_668 z_689 (by intro z; cases z)
  have z_702 : h_173 a_92 = some (aA 0 5 (fun _ => 0)) := by rw [e_173]; exact upH_k z_670 z_689 (by intro z; cases z)
  have z_703 : h_173 a_100 = some (aA 0 20 (fun _ => 0)) := by rw [e_173]; exact upH_k z_672 z_689 (by intro z; cases z)
  have z_704 : h_173 a_107 = some (aA 0 5 (fun _ => 0)) := by rw [e_173]; exact upH_k z_674 z_689 (by intro z; cases z)
  have z_705 : h_173 a_115 = some (aA 1 20 (fun _ => 0)) := by rw [e_173]; exact upH_k z_676 z_689 (by intro z; cases z)
  have z_706 : h_173 a_123 = some (aA 0 60 (fun _ => 0)) := by rw [e_173]; exact upH_k z_677 z_689 (by intro z; cases z)
  have z_707 : h_173 a_131 = some (aA 0 60 (fun _ => 0)) := by rw [e_173]; exact upH_k z_679 z_689 (by intro z; cases z)
  have z_708 : h_173 a_139 = some (aA 0 60 (fun _ => 0)) := by rw [e_173]; exact upH_k z_681 z_689 (by intro z; cases z)
  have z_709 : h_173 a_147 = some (aA 0 100 (fun _ => 0)) := by rw [e_173]; exact upH_k z_683 z_689 (by intro z; cases z)
  have z_710 : h_173 a_154 = some (aA 0 5 (fun _ => 0)) := by rw [e_173]; exact upH_k z_685 z_689 (by intro z; cases z)
  have z_711 : h_173 a_163 = some (aA 0 240 (fun _ => 0)) := by rw [e_173]; exact upH_k z_687 z_689 (by intro z; cases z)
  have z_712 : h_173 a_171 = some (aA 0 40 (fun _ => 0)) := by rw [e_173]; exact upH_k z_690 z_689 (by intro z; cases z)
  have z_713 : h_173 o = some (aO 1 [IV 0, .ref a_7, .ref a_15, .ref a_23, .ref a_30, .ref a_37, IV 0, .ref a_45, .ref a_53, IV 0, .ref a_62, .ref a_71, .ref a_80, IV 0, IV 0, IV 0, IV 0, IV 0, .ref a_92, IV 0, .ref a_100, .ref a_107, .ref a_115, .ref a_123, .ref a_131, .ref a_139, IV 0, .ref a_147, .ref a_154, .ref a_163, .ref a_171, .null, .null, .null, .null, .null, .null, IV 0, IV 0, .null, .null, .null, IV 0, IV 0]) := by rw [e_173]; exact upH_self _ _ _
  have nd_714 : [a_171, a_163, a_154, a_147, a_139, a_131, a_123, a_115, a_107, a_100, a_92, a_80, a_71, a_62, a_53, a_45, a_37, a_30, a_23, a_15, a_7].Nodup ∧ ∀ b ∈ [a_171, a_163, a_154, a_147, a_139, a_131, a_123, a_115, a_107, a_100, a_92, a_80, a_71, a_62, a_53, a_45, a_37, a_30, a_23, a_15, a_7], h_173 b ≠ none := nd_put nd_691 e_173
  refine j_aload_n (pc := 176) dX2_init_176 rfl ?_
  refine j_iconst (pc := 177) dX2_init_177 rfl ?_
  refine j_room (cl' := 8 + 1) (sl' := 3049 + 5) (by omega) (by omega) ?_
  refine j1_newa (i := 5) (N := 5) (atype := .int) hal (Or.inl ⟨rfl, rfl⟩) q141 (by omega) (by omega) (by omega) dX2_init_178 (fun a_178 h_178 n_178 e_178 => ?_)
  have z_715 : h_178 a_7 = some (aA 1 72 (fun _ => 0)) := by rw [e_178]; exact upH_old z_692 n_178
  have z_716 : h_178 a_15 = some (aA 0 36 (fun _ => 0)) := by rw [e_178]; exact upH_old z_693 n_178
  have ne_717 : a_15 ≠ a_178 := fresh_ne z_693 n_178
  have z_718 : h_178 a_23 = some (aA 0 36 (fun _ => 0)) := by rw [e_178]; exact upH_old z_694 n_178
  have ne_719 : a_23 ≠ a_178 := fresh_ne z_694 n_178
  have z_720 : h_178 a_30 = some (aA 0 5 (fun _ => 0)) := by rw [e_178]; exact upH_old z_695 n_178
  have ne_721 : a_30 ≠ a_178 := fresh_ne z_695 n_178
  have z_722 : h_178 a_37 = some (aA 0 5 (fun _ => 0)) := by rw [e_178]; exact upH_old z_696 n_178
  have ne_723 : a_37 ≠ a_178 := fresh_ne z_696 n_178
  have z_724 : h_178 a_45 = some (aA 0 20 (fun _ => 0)) := by rw [e_178]; exact upH_old z_697 n_178
  have ne_725 : a_45 ≠ a_178 := fresh_ne z_697 n_178
  have z_726 : h_178 a_53 = some (aA 1 20 (fun _ => 0)) := by rw [e_178]; exact upH_old z_698 n_178
  have z_727 : h_178 a_62 = some (aA 0 540 (fun _ => 0)) := by rw [e_178]; exact upH_old z_699 n_178
  have ne_728 : a_62 ≠ a_178 := fresh_ne z_699 n_178
  have z_729 : h_178 a_71 = some (aA 0 540 (fun _ => 0)) := by rw [e_178]; exact upH_old z_700 n_178
  have ne_730 : a_71 ≠ a_178 := fresh_ne z_700 n_178
  have z_731 : h_178 a_80 = some (aA 0 540 (fun _ => 0)) := by rw [e_178]; exact upH_old z_701 n_178
  have ne_732 : a_80 ≠ a_178 := fresh_ne z_701 n_178
  have z_733 : h_178 a_92 = some (aA 0 5 (fun _ => 0)) := by rw [e_178]; exact upH_old z_702 n_178
  have ne_734 : a_92 ≠ a_178 := fresh_ne z_702 n_178
  have z_735 : h_178 a_100 = some (aA 0 20 (fun _ => 0)) := by rw [e_178]; exact upH_old z_703 n_178
  have ne_736 : a_100 ≠ a_178 := fresh_ne z_703 n_178
  have z_737 : h_178 a_107 = some (aA 0 5 (fun _ => 0)) := by rw [e_178]; exact upH_old z_704 n_178
  have ne_738 : a_107 ≠ a_178 := fresh_ne z_704 n_178
  have z_739 : h_178 a_115 = some (aA 1 20 (fun _ => 0)) := by rw [e_178]; exact upH_old z_705 n_178
  have z_740 : h_178 a_123 = some (aA 0 60 (fun _ => 0)) := by rw [e_178]; exact upH_old z_706 n_178
  have ne_741 : a_123 ≠ a_178 := fresh_ne z_706 n_178
  have z_742 : h_178 a_131 = some (aA 0 60 (fun _ => 0)) := by rw [e_178]; exact upH_old z_707 n_178
  have ne_743 : a_131 ≠ a_178 := fresh_ne z_707 n_178
  have z_744 : h_178 a_139 = some (aA 0 60 (fun _ => 0)) := by rw [e_178]; exact upH_old z_708 n_178
  have ne_745 : a_139 ≠ a_178 := fresh_ne z_708 n_178
  have z_746 : h_178 a_147 = some (aA 0 100 (fun _ => 0)) := by rw [e_178]; exact upH_old z_709 n_178
  have ne_747 : a_147 ≠ a_178 := fresh_ne z_709 n_178
  have z_748 : h_178 a_154 = some (aA 0 5 (fun _ => 0)) := by rw [e_178]; exact upH_old z_710 n_178
  have ne_749 : a_154 ≠ a_178 := fresh_ne z_710 n_178
  have z_750 : h_178 a_163 = some (aA 0 240 (fun _ => 0)) := by rw [e_178]; exact upH_old z_711 n_178
  have ne_751 : a_163 ≠ a_178 := fresh_ne z_711 n_178
  have z_752 : h_178 a_171 = some (aA 0 40 (fun _ => 0)) := by rw [e_178]; exact upH_old z_712 n_178
  have ne_753 : a_171 ≠ a_178 := fresh_ne z_712 n_178
  have z_754 : h_178 o = some (aO 1 [IV 0, .ref a_7, .ref a_15, .ref a_23, .ref a_30, .ref a_37, IV 0, .ref a_45, .ref a_53, IV 0, .ref a_62, .ref a_71, .ref a_80, IV 0, IV 0, IV 0, IV 0, IV 0, .ref a_92, IV 0, .ref a_100, .ref a_107, .ref a_115, .ref a_123, .ref a_131, .ref a_139, IV 0, .ref a_147, .ref a_154, .ref a_163, .ref a_171, .null, .null, .null, .null, .null, .null, IV 0, IV 0, .null, .null, .null, IV 0, IV 0]) := by rw [e_178]; exact upH_old z_713 n_178
  have z_755 : h_178 a_178 = some (aA 0 5 (fun _ => 0)) := by rw [e_178]; exact upH_self _ _ _
  have nd_756 : [a_178, a_171, a_163, a_154, a_147, a_139, a_131, a_123, a_115, a_107, a_100, a_92, a_80, a_71, a_62, a_53, a_45, a_37, a_30, a_23, a_15, a_7].Nodup ∧ ∀ b ∈ [a_178, a_171, a_163, a_154, a_147, a_139, a_131, a_123, a_115, a_107, a_100, a_92, a_80, a_71, a_62, a_53, a_45, a_37, a_30, a_23, a_15, a_7], h_178 b ≠ none := nd_new nd_714 n_178 e_178
  have no_a_178 : a_178 ≠ o := Ne.symm (fresh_ne z_713 n_178)
  refine j1_putF rfl fp_X2_78_X2 z_754 (Nat.le_of_ble_eq_true rfl) rfl rfl dX2_init_180 (fun h_180 e_180 => ?_)
  have z_757 : h_180 a_7 = some (aA 1 72 (fun _ => 0)) := by rw [e_180]; exact upH_k z_715 z_754 (by intro z; cases z)
  have z_758 : h_180 a_15 = some (aA 0 36 (fun _ => 0)) := by rw [e_180]; exact upH_k z_716 z_754 (by intro z; cases z)
  have z_759 : h_180 a_23 = some (aA 0 36 (fun _ => 0)) := by rw [e_180]; exact upH_k z_718 z_754 (by intro z; cases z)
  have z_760 : h_180 a_30 = some (aA 0 5 (fun _ => 0)) := by rw [e_180]; exact upH_k z_720 z_754 (by intro z; cases z)
  have z_761 : h_180 a_37 = some (aA 0 5 (fun _ => 0)) := by rw [e_180]; exact upH_k z_722 z_754 (by intro z; cases z)
  have z_762 : h_180 a_45 = some (aA 0 20 (fun _ => 0)) := by rw [e_180]; exact upH_k z_724 z_754 (by intro z; cases z)
  have z_763 : h_180 a_53 = some (aA 1 20 (fun _ => 0)) := by rw [e_180]; exact upH_k z_726 z_754 (by intro z; cases z)
  have z_764 : h_180 a_62 = some (aA 0 540 (fun _ => 0)) := by rw [e_180]; exact upH_k z_727 z_754 (by intro z; cases z)
  have z_765 : h_180 a_71 = some (aA 0 540 (fun _ => 0)) := by rw [e_180]; exact upH_k z_729 z_754 (by intro z; cases z)
  have z_766 : h_180 a_80 = some (aA 0 540 (fun _ => 0)) := by rw [e_180]; exact upH_k z_731 z_754 (by intro z; cases z)
  have z_767 : h_180 a_92 = some (aA 0 5 (fun _ => 0)) := by rw [e_180]; exact upH_k z_733 z_754 (by intro z; cases z)
  have z_768 : h_180 a_100 = some (aA 0 20 (fun _ => 0)) := by rw [e_180]; exact upH_k z_735 z_754 (by intro z; cases z)
  have z_769 : h_180 a_107 = some (aA 0 5 (fun _ => 0)) := by rw [e_180]; exact upH_k z_737 z_754 (by intro z; cases z)
  have z_770 : h_180 a_115 = some (aA 1 20 (fun _ => 0)) := by rw [e_180]; exact upH_k z_739 z_754 (by intro z; cases z)
  have z_771 : h_180 a_123 = some (aA 0 60 (fun _ => 0)) := by rw [e_180]; exact upH_k z_740 z_754 (by intro z; cases z)
  have z_772 : h_180 a_131 = some (aA 0 60 (fun _ => 0)) := by rw [e_180]; exact upH_k z_742 z_754 (by intro z; cases z)
  have z_773 : h_180 a_139 = some (aA 0 60 (fun _ => 0)) := by rw [e_180]; exact upH_k z_744 z_754 (by intro z; cases z)
  have z_774 : h_180 a_147 = some (aA 0 100 (fun _ => 0)) := by rw [e_180]; exact upH_k z_746 z_754 (by intro z; cases z)
  have z_775 : h_180 a_154 = some (aA 0 5 (fun _ => 0)) := by rw [e_180]; exact upH_k z_748 z_754 (by intro z; cases z)
  have z_776 : h_180 a_163 = some (aA 0 240 (fun _ => 0)) := by rw [e_180]; exact upH_k z_750 z_754 (by intro z; cases z)
  have z_777 : h_180 a_171 = some (aA 0 40 (fun _ => 0)) := by rw [e_180]; exact upH_k z_752 z_754 (by intro z; cases z)
  have z_778 : h_180 a_178 = some (aA 0 5 (fun _ => 0)) := by rw [e_180]; exact upH_k z_755 z_754 (by intro z; cases z)
  have z_779 : h_180 o = some (aO 1 [IV 0, .ref a_7, .ref a_15, .ref a_23, .ref a_30, .ref a_37, IV 0, .ref a_45, .ref a_53, IV 0, .ref a_62, .ref a_71, .ref a_80, IV 0, IV 0, IV 0, IV 0, IV 0, .ref a_92, IV 0, .ref a_100, .ref a_107, .ref a_115, .ref a_123, .ref a_131, .ref a_139, IV 0, .ref a_147, .ref a_154, .ref a_163, .ref a_171, .ref a_178, .null, .null, .null, .null, .null, IV 0, IV 0, .null, .null, .null, IV 0, IV 0]) := by rw [e_180]; exact upH_self _ _ _
  have nd_780 : [a_178, a_171, a_163, a_154, a_147, a_139, a_131, a_123, a_115, a_107, a_100, a_92, a_80, a_71, a_62, a_53, a_45, a_37, a_30, a_23, a_15, a_7].Nodup ∧ ∀ b ∈ [a_178, a_171, a_163, a_154, a_147, a_139, a_131, a_123, a_115, a_107, a_100, a_92, a_80, a_71, a_62, a_53, a_45, a_37, a_30, a_23, a_15, a_7], h_180 b ≠ none := nd_put nd_756 e_180
  refine j_aload_n (pc := 183) dX2_init_183 rfl ?_
  refine j_iconst (pc := 184) dX2_init_184 rfl ?_
  refine j_room (cl' := 7 + 1) (sl' := 3044 + 5) (by omega) (by omega) ?_
  refine j1_newa (i := 5) (N := 5) (atype := .int) hal (Or.inl ⟨rfl, rfl⟩) q141 (by omega) (by omega) (by omega) dX2_init_185 (fun a_185 h_185 n_185 e_185 => ?_)
  have z_781 : h_185 a_7 = some (aA 1 72 (fun _ => 0)) := by rw [e_185]; exact upH_old z_757 n_185
  have z_782 : h_185 a_15 = some (aA 0 36 (fun _ => 0)) := by rw [e_185]; exact upH_old z_758 n_185
  have ne_783 : a_15 ≠ a_185 := fresh_ne z_758 n_185
  have z_784 : h_185 a_23 = some (aA 0 36 (fun _ => 0)) := by rw [e_185]; exact upH_old z_759 n_185
  have ne_785 : a_23 ≠ a_185 := fresh_ne z_759 n_185
  have z_786 : h_185 a_30 = some (aA 0 5 (fun _ => 0)) := by rw [e_185]; exact upH_old z_760 n_185
  have ne_787 : a_30 ≠ a_185 := fresh_ne z_760 n_185
  have z_788 : h_185 a_37 = some (aA 0 5 (fun _ => 0)) := by rw [e_185]; exact upH_old z_761 n_185
  have ne_789 : a_37 ≠ a_185 := fresh_ne z_761 n_185
  have z_790 : h_185 a_45 = some (aA 0 20 (fun _ => 0)) := by rw [e_185]; exact upH_old z_762 n_185
  have ne_791 : a_45 ≠ a_185 := fresh_ne z_762 n_185
  have z_792 : h_185 a_53 = some (aA 1 20 (fun _ => 0)) := by rw [e_185]; exact upH_old z_763 n_185
  have z_793 : h_185 a_62 = some (aA 0 540 (fun _ => 0)) := by rw [e_185]; exact upH_old z_764 n_185
  have ne_794 : a_62 ≠ a_185 := fresh_ne z_764 n_185
  have z_795 : h_185 a_71 = some (aA 0 540 (fun _ => 0)) := by rw [e_185]; exact upH_old z_765 n_185
  have ne_796 : a_71 ≠ a_185 := fresh_ne z_765 n_185
  have z_797 : h_185 a_80 = some (aA 0 540 (fun _ => 0)) := by rw [e_185]; exact upH_old z_766 n_185
  have ne_798 : a_80 ≠ a_185 := fresh_ne z_766 n_185
  have z_799 : h_185 a_92 = some (aA 0 5 (fun _ => 0)) := by rw [e_185]; exact upH_old z_767 n_185
  have ne_800 : a_92 ≠ a_185 := fresh_ne z_767 n_185
  have z_801 : h_185 a_100 = some (aA 0 20 (fun _ => 0)) := by rw [e_185]; exact upH_old z_768 n_185
  have ne_802 : a_100 ≠ a_185 := fresh_ne z_768 n_185
  have z_803 : h_185 a_107 = some (aA 0 5 (fun _ => 0)) := by rw [e_185]; exact upH_old z_769 n_185
  have ne_804 : a_107 ≠ a_185 := fresh_ne z_769 n_185
  have z_805 : h_185 a_115 = some (aA 1 20 (fun _ => 0)) := by rw [e_185]; exact upH_old z_770 n_185
  have z_806 : h_185 a_123 = some (aA 0 60 (fun _ => 0)) := by rw [e_185]; exact upH_old z_771 n_185
  have ne_807 : a_123 ≠ a_185 := fresh_ne z_771 n_185
  have z_808 : h_185 a_131 = some (aA 0 60 (fun _ => 0)) := by rw [e_185]; exact upH_old z_772 n_185
  have ne_809 : a_131 ≠ a_185 := fresh_ne z_772 n_185
  have z_810 : h_185 a_139 = some (aA 0 60 (fun _ => 0)) := by rw [e_185]; exact upH_old z_773 n_185
  have ne_811 : a_139 ≠ a_185 := fresh_ne z_773 n_185
  have z_812 : h_185 a_147 = some (aA 0 100 (fun _ => 0)) := by rw [e_185]; exact upH_old z_774 n_185
  have ne_813 : a_147 ≠ a_185 := fresh_ne z_774 n_185
  have z_814 : h_185 a_154 = some (aA 0 5 (fun _ => 0)) := by rw [e_185]; exact upH_old z_775 n_185
  have ne_815 : a_154 ≠ a_185 := fresh_ne z_775 n_185
  have z_816 : h_185 a_163 = some (aA 0 240 (fun _ => 0)) := by rw [e_185]; exact upH_old z_776 n_185
  have ne_817 : a_163 ≠ a_185 := fresh_ne z_776 n_185
  have z_818 : h_185 a_171 = some (aA 0 40 (fun _ => 0)) := by rw [e_185]; exact upH_old z_777 n_185
  have ne_819 : a_171 ≠ a_185 := fresh_ne z_777 n_185
  have z_820 : h_185 a_178 = some (aA 0 5 (fun _ => 0)) := by rw [e_185]; exact upH_old z_778 n_185
  have ne_821 : a_178 ≠ a_185 := fresh_ne z_778 n_185
  have z_822 : h_185 o = some (aO 1 [IV 0, .ref a_7, .ref a_15, .ref a_23, .ref a_30, .ref a_37, IV 0, .ref a_45, .ref a_53, IV 0, .ref a_62, .ref a_71, .ref a_80, IV 0, IV 0, IV 0, IV 0, IV 0, .ref a_92, IV 0, .ref a_100, .ref a_107, .ref a_115, .ref a_123, .ref a_131, .ref a_139, IV 0, .ref a_147, .ref a_154, .ref a_163, .ref a_171, .ref a_178, .null, .null, .null, .null, .null, IV 0, IV 0, .null, .null, .null, IV 0, IV 0]) := by rw [e_185]; exact upH_old z_779 n_185
  have z_823 : h_185 a_185 = some (aA 0 5 (fun _ => 0)) := by rw [e_185]; exact upH_self _ _ _
  have nd_824 : [a_185, a_178, a_171, a_163, a_154, a_147, a_139, a_131, a_123, a_115, a_107, a_100, a_92, a_80, a_71, a_62, a_53, a_45, a_37, a_30, a_23, a_15, a_7].Nodup ∧ ∀ b ∈ [a_185, a_178, a_171, a_163, a_154, a_147, a_139, a_131, a_123, a_115, a_107, a_100, a_92, a_80, a_71, a_62, a_53, a_45, a_37, a_30, a_23, a_15, a_7], h_185 b ≠ none := nd_new nd_780 n_185 e_185
  have no_a_185 : a_185 ≠ o := Ne.symm (fresh_ne z_779 n_185)
  refine j1_putF rfl fp_X2_81_X2 z_822 (Nat.le_of_ble_eq_true rfl) rfl rfl dX2_init_187 (fun h_187 e_187 => ?_)
  have z_825 : h_187 a_7 = some (aA 1 72 (fun _ => 0)) := by rw [e_187]; exact upH_k z_781 z_822 (by intro z; cases z)
  have z_826 : h_187 a_15 = some (aA 0 36 (fun _ => 0)) := by rw [e_187]; exact upH_k z_782 z_822 (by intro z; cases z)
  have z_827 : h_187 a_23 = some (aA 0 36 (fun _ => 0)) := by rw [e_187]; exact upH_k z_784 z_822 (by intro z; cases z)
  have z_828 : h_187 a_30 = some (aA 0 5 (fun _ => 0)) := by rw [e_187]; exact upH_k z_786 z_822 (by intro z; cases z)
  have z_829 : h_187 a_37 = some (aA 0 5 (fun _ => 0)) := by rw [e_187]; exact upH_k z_788 z_822 (by intro z; cases z)
  have z_830 : h_187 a_45 = some (aA 0 20 (fun _ => 0)) := by rw [e_187]; exact upH_k z_790 z_822 (by intro z; cases z)
  have z_831 : h_187 a_53 = some (aA 1 20 (fun _ => 0)) := by rw [e_187]; exact upH_k z_792 z_822 (by intro z; cases z)
  have z_832 : h_187 a_62 = some (aA 0 540 (fun _ => 0)) := by rw [e_187]; exact upH_k z_793 z_822 (by intro z; cases z)
  have z_833 : h_187 a_71 = some (aA 0 540 (fun _ => 0)) := by rw [e_187]; exact upH_k z_795 z_822 (by intro z; cases z)
  have z_834 : h_187 a_80 = some (aA 0 540 (fun _ => 0)) := by rw [e_187]; exact upH_k z_797 z_822 (by intro z; cases z)
  have z_835 : h_187 a_92 = some (aA 0 5 (fun _ => 0)) := by rw [e_187]; exact upH_k z_799 z_822 (by intro z; cases z)
  have z_836 : h_187 a_100 = some (aA 0 20 (fun _ => 0)) := by rw [e_187]; exact upH_k z_801 z_822 (by intro z; cases z)
  have z_837 : h_187 a_107 = some (aA 0 5 (fun _ => 0)) := by rw [e_187]; exact upH_k z_803 z_822 (by intro z; cases z)
  have z_838 : h_187 a_115 = some (aA 1 20 (fun _ => 0)) := by rw [e_187]; exact upH_k z_805 z_822 (by intro z; cases z)
  have z_839 : h_187 a_123 = some (aA 0 60 (fun _ => 0)) := by rw [e_187]; exact upH_k z_806 z_822 (by intro z; cases z)
  have z_840 : h_187 a_131 = some (aA 0 60 (fun _ => 0)) := by rw [e_187]; exact upH_k z_808 z_822 (by intro z; cases z)
  have z_841 : h_187 a_139 = some (aA 0 60 (fun _ => 0)) := by rw [e_187]; exact upH_k z_810 z_822 (by intro z; cases z)
  have z_842 : h_187 a_147 = some (aA 0 100 (fun _ => 0)) := by rw [e_187]; exact upH_k z_812 z_822 (by intro z; cases z)
  have z_843 : h_187 a_154 = some (aA 0 5 (fun _ => 0)) := by rw [e_187]; exact upH_k z_814 z_822 (by intro z; cases z)
  have z_844 : h_187 a_163 = some (aA 0 240 (fun _ => 0)) := by rw [e_187]; exact upH_k z_816 z_822 (by intro z; cases z)
  have z_845 : h_187 a_171 = some (aA 0 40 (fun _ => 0)) := by rw [e_187]; exact upH_k z_818 z_822 (by intro z; cases z)
  have z_846 : h_187 a_178 = some (aA 0 5 (fun _ => 0)) := by rw [e_187]; exact upH_k z_820 z_822 (by intro z; cases z)
  have z_847 : h_187 a_185 = some (aA 0 5 (fun _ => 0)) := by rw [e_187]; exact upH_k z_823 z_822 (by intro z; cases z)
  have z_848 : h_187 o = some (aO 1 [IV 0, .ref a_7, .ref a_15, .ref a_23, .ref a_30, .ref a_37, IV 0, .ref a_45, .ref a_53, IV 0, .ref a_62, .ref a_71, .ref a_80, IV 0, IV 0, IV 0, IV 0, IV 0, .ref a_92, IV 0, .ref a_100, .ref a_107, .ref a_115, .ref a_123, .ref a_131, .ref a_139, IV 0, .ref a_147, .ref a_154, .ref a_163, .ref a_171, .ref a_178, .ref a_185, .null, .null, .null, .null, IV 0, IV 0, .null, .null, .null, IV 0, IV 0]) := by rw [e_187]; exact upH_self _ _ _
  have nd_849 : [a_185, a_178, a_171, a_163, a_154, a_147, a_139, a_131, a_123, a_115, a_107, a_100, a_92, a_80, a_71, a_62, a_53, a_45, a_37, a_30, a_23, a_15, a_7].Nodup ∧ ∀ b ∈ [a_185, a_178, a_171, a_163, a_154, a_147, a_139, a_131, a_123, a_115, a_107, a_100, a_92, a_80, a_71, a_62, a_53, a_45, a_37, a_30, a_23, a_15, a_7], h_187 b ≠ none := nd_put nd_824 e_187
  refine j_aload_n (pc := 190) dX2_init_190 rfl ?_
  refine j_iconst (pc := 191) dX2_init_191 rfl ?_
  refine j_room (cl' := 6 + 1) (sl' := 3040 + 4) (by omega) (by omega) ?_
  refine j1_newa (i := 4) (N := 4) (atype := .int) hal (Or.inl ⟨rfl, rfl⟩) q141 (by omega) (by omega) (by omega) dX2_init_192 (fun a_192 h_192 n_192 e_192 => ?_)
  have z_850 : h_192 a_7 = some (aA 1 72 (fun _ => 0)) := by rw [e_192]; exact upH_old z_825 n_192
  have z_851 : h_192 a_15 = some (aA 0 36 (fun _ => 0)) := by rw [e_192]; exact upH_old z_826 n_192
  have ne_852 : a_15 ≠ a_192 := fresh_ne z_826 n_192
  have z_853 : h_192 a_23 = some (aA 0 36 (fun _ => 0)) := by rw [e_192]; exact upH_old z_827 n_192
  have ne_854 : a_23 ≠ a_192 := fresh_ne z_827 n_192
  have z_855 : h_192 a_30 = some (aA 0 5 (fun _ => 0)) := by rw [e_192]; exact upH_old z_828 n_192
  have ne_856 : a_30 ≠ a_192 := fresh_ne z_828 n_192
  have z_857 : h_192 a_37 = some (aA 0 5 (fun _ => 0)) := by rw [e_192]; exact upH_old z_829 n_192
  have ne_858 : a_37 ≠ a_192 := fresh_ne z_829 n_192
  have z_859 : h_192 a_45 = some (aA 0 20 (fun _ => 0)) := by rw [e_192]; exact upH_old z_830 n_192
  have ne_860 : a_45 ≠ a_192 := fresh_ne z_830 n_192
  have z_861 : h_192 a_53 = some (aA 1 20 (fun _ => 0)) := by rw [e_192]; exact upH_old z_831 n_192
  have z_862 : h_192 a_62 = some (aA 0 540 (fun _ => 0)) := by rw [e_192]; exact upH_old z_832 n_192
  have ne_863 : a_62 ≠ a_192 := fresh_ne z_832 n_192
  have z_864 : h_192 a_71 = some (aA 0 540 (fun _ => 0)) := by rw [e_192]; exact upH_old z_833 n_192
  have ne_865 : a_71 ≠ a_192 := fresh_ne z_833 n_192
  have z_866 : h_192 a_80 = some (aA 0 540 (fun _ => 0)) := by rw [e_192]; exact upH_old z_834 n_192
  have ne_867 : a_80 ≠ a_192 := fresh_ne z_834 n_192
  have z_868 : h_192 a_92 = some (aA 0 5 (fun _ => 0)) := by rw [e_192]; exact upH_old z_835 n_192
  have ne_869 : a_92 ≠ a_192 := fresh_ne z_835 n_192
  have z_870 : h_192 a_100 = some (aA 0 20 (fun _ => 0)) := by rw [e_192]; exact upH_old z_836 n_192
  have ne_871 : a_100 ≠ a_192 := fresh_ne z_836 n_192
  have z_872 : h_192 a_107 = some (aA 0 5 (fun _ => 0)) := by rw [e_192]; exact upH_old z_837 n_192
  have ne_873 : a_107 ≠ a_192 := fresh_ne z_837 n_192
  have z_874 : h_192 a_115 = some (aA 1 20 (fun _ => 0)) := by rw [e_192]; exact upH_old z_838 n_192
  have z_875 : h_192 a_123 = some (aA 0 60 (fun _ => 0)) := by rw [e_192]; exact upH_old z_839 n_192
  have ne_876 : a_123 ≠ a_192 := fresh_ne z_839 n_192
  have z_877 : h_192 a_131 = some (aA 0 60 (fun _ => 0)) := by rw [e_192]; exact upH_old z_840 n_192
  have ne_878 : a_131 ≠ a_192 := fresh_ne z_840 n_192
  have z_879 : h_192 a_139 = some (aA 0 60 (fun _ => 0)) := by rw [e_192]; exact upH_old z_841 n_192
  have ne_880 : a_139 ≠ a_192 := fresh_ne z_841 n_192
  have z_881 : h_192 a_147 = some (aA 0 100 (fun _ => 0)) := by rw [e_192]; exact upH_old z_842 n_192
  have ne_882 : a_147 ≠ a_192 := fresh_ne z_842 n_192
  have z_883 : h_192 a_154 = some (aA 0 5 (fun _ => 0)) := by rw [e_192]; exact upH_old z_843 n_192
  have ne_884 : a_154 ≠ a_192 := fresh_ne z_843 n_192
  have z_885 : h_192 a_163 = some (aA 0 240 (fun _ => 0)) := by rw [e_192]; exact upH_old z_844 n_192
  have ne_886 : a_163 ≠ a_192 := fresh_ne z_844 n_192
  have z_887 : h_192 a_171 = some (aA 0 40 (fun _ => 0)) := by rw [e_192]; exact upH_old z_845 n_192
  have ne_888 : a_171 ≠ a_192 := fresh_ne z_845 n_192
  have z_889 : h_192 a_178 = some (aA 0 5 (fun _ => 0)) := by rw [e_192]; exact upH_old z_846 n_192
  have ne_890 : a_178 ≠ a_192 := fresh_ne z_846 n_192
  have z_891 : h_192 a_185 = some (aA 0 5 (fun _ => 0)) := by rw [e_192]; exact upH_old z_847 n_192
  have ne_892 : a_185 ≠ a_192 := fresh_ne z_847 n_192
  have z_893 : h_192 o = some (aO 1 [IV 0, .ref a_7, .ref a_15, .ref a_23, .ref a_30, .ref a_37, IV 0, .ref a_45, .ref a_53, IV 0, .ref a_62, .ref a_71, .ref a_80, IV 0, IV 0, IV 0, IV 0, IV 0, .ref a_92, IV 0, .ref a_100, .ref a_107, .ref a_115, .ref a_123, .ref a_131, .ref a_139, IV 0, .ref a_147, .ref a_154, .ref a_163, .ref a_171, .ref a_178, .ref a_185, .null, .null, .null, .null, IV 0, IV 0, .null, .null, .null, IV 0, IV 0]) := by rw [e_192]; exact upH_old z_848 n_192
  have z_894 : h_192 a_192 = some (aA 0 4 (fun _ => 0)) := by rw [e_192]; exact upH_self _ _ _
  have nd_895 : [a_192, a_185, a_178, a_171, a_163, a_154, a_147, a_139, a_131, a_123, a_115, a_107, a_100, a_92, a_80, a_71, a_62, a_53, a_45, a_37, a_30, a_23, a_15, a_7].Nodup ∧ ∀ b ∈ [a_192, a_185, a_178, a_171, a_163, a_154, a_147, a_139, a_131, a_123, a_115, a_107, a_100, a_92, a_80, a_71, a_62, a_53, a_45, a_37, a_30, a_23, a_15, a_7], h_192 b ≠ none := nd_new nd_849 n_192 e_192
  have no_a_192 : a_192 ≠ o := Ne.symm (fresh_ne z_848 n_192)
  refine j1_putF rfl fp_X2_84_X2 z_893 (Nat.le_of_ble_eq_true rfl) rfl rfl dX2_init_194 (fun h_194 e_194 => ?_)
  have z_896 : h_194 a_7 = some (aA 1 72 (fun _ => 0)) := by rw [e_194]; exact upH_k z_850 z_893 (by intro z; cases z)
  have z_897 : h_194 a_15 = some (aA 0 36 (fun _ => 0)) := by rw [e_194]; exact upH_k z_851 z_893 (by intro z; cases z)
  have z_898 : h_194 a_23 = some (aA 0 36 (fun _ => 0)) := by rw [e_194]; exact upH_k z_853 z_893 (by intro z; cases z)
  have z_899 : h_194 a_30 = some (aA 0 5 (fun _ => 0)) := by rw [e_194]; exact upH_k z_855 z_893 (by intro z; cases z)
  have z_900 : h_194 a_37 = some (aA 0 5 (fun _ => 0)) := by rw [e_194]; exact upH_k z_857 z_893 (by intro z; cases z)
  have z_901 : h_194 a_45 = some (aA 0 20 (fun _ => 0)) := by rw [e_194]; exact upH_k z_859 z_893 (by intro z; cases z)
  have z_902 : h_194 a_53 = some (aA 1 20 (fun _ => 0)) := by rw [e_194]; exact upH_k z_861 z_893 (by intro z; cases z)
  have z_903 : h_194 a_62 = some (aA 0 540 (fun _ => 0)) := by rw [e_194]; exact upH_k z_862 z_893 (by intro z; cases z)
  have z_904 : h_194 a_71 = some (aA 0 540 (fun _ => 0)) := by rw [e_194]; exact upH_k z_864 z_893 (by intro z; cases z)
  have z_905 : h_194 a_80 = some (aA 0 540 (fun _ => 0)) := by rw [e_194]; exact upH_k z_866 z_893 (by intro z; cases z)
  have z_906 : h_194 a_92 = some (aA 0 5 (fun _ => 0)) := by rw [e_194]; exact upH_k z_868 z_893 (by intro z; cases z)
  have z_907 : h_194 a_100 = some (aA 0 20 (fun _ => 0)) := by rw [e_194]; exact upH_k z_870 z_893 (by intro z; cases z)
  have z_908 : h_194 a_107 = some (aA 0 5 (fun _ => 0)) := by rw [e_194]; exact upH_k z_872 z_893 (by intro z; cases z)
  have z_909 : h_194 a_115 = some (aA 1 20 (fun _ => 0)) := by rw [e_194]; exact upH_k z_874 z_893 (by intro z; cases z)
  have z_910 : h_194 a_123 = some (aA 0 60 (fun _ => 0)) := by rw [e_194]; exact upH_k z_875 z_893 (by intro z; cases z)
  have z_911 : h_194 a_131 = some (aA 0 60 (fun _ => 0)) := by rw [e_194]; exact upH_k z_877 z_893 (by intro z; cases z)
  have z_912 : h_194 a_139 = some (aA 0 60 (fun _ => 0)) := by rw [e_194]; exact upH_k z_879 z_893 (by intro z; cases z)
  have z_913 : h_194 a_147 = some (aA 0 100 (fun _ => 0)) := by rw [e_194]; exact upH_k z_881 z_893 (by intro z; cases z)
  have z_914 : h_194 a_154 = some (aA 0 5 (fun _ => 0)) := by rw [e_194]; exact upH_k z_883 z_893 (by intro z; cases z)
  have z_915 : h_194 a_163 = some (aA 0 240 (fun _ => 0)) := by rw [e_194]; exact upH_k z_885 z_893 (by intro z; cases z)
  have z_916 : h_194 a_171 = some (aA 0 40 (fun _ => 0)) := by rw [e_194]; exact upH_k z_887 z_893 (by intro z; cases z)
  have z_917 : h_194 a_178 = some (aA 0 5 (fun _ => 0)) := by rw [e_194]; exact upH_k z_889 z_893 (by intro z; cases z)
  have z_918 : h_194 a_185 = some (aA 0 5 (fun _ => 0)) := by rw [e_194]; exact upH_k z_891 z_893 (by intro z; cases z)
  have z_919 : h_194 a_192 = some (aA 0 4 (fun _ => 0)) := by rw [e_194]; exact upH_k z_894 z_893 (by intro z; cases z)
  have z_920 : h_194 o = some (aO 1 [IV 0, .ref a_7, .ref a_15, .ref a_23, .ref a_30, .ref a_37, IV 0, .ref a_45, .ref a_53, IV 0, .ref a_62, .ref a_71, .ref a_80, IV 0, IV 0, IV 0, IV 0, IV 0, .ref a_92, IV 0, .ref a_100, .ref a_107, .ref a_115, .ref a_123, .ref a_131, .ref a_139, IV 0, .ref a_147, .ref a_154, .ref a_163, .ref a_171, .ref a_178, .ref a_185, .ref a_192, .null, .null, .null, IV 0, IV 0, .null, .null, .null, IV 0, IV 0]) := by rw [e_194]; exact upH_self _ _ _
  have nd_921 : [a_192, a_185, a_178, a_171, a_163, a_154, a_147, a_139, a_131, a_123, a_115, a_107, a_100, a_92, a_80, a_71, a_62, a_53, a_45, a_37, a_30, a_23, a_15, a_7].Nodup ∧ ∀ b ∈ [a_192, a_185, a_178, a_171, a_163, a_154, a_147, a_139, a_131, a_123, a_115, a_107, a_100, a_92, a_80, a_71, a_62, a_53, a_45, a_37, a_30, a_23, a_15, a_7], h_194 b ≠ none := nd_put nd_895 e_194
  refine j_aload_n (pc := 197) dX2_init_197 rfl ?_
  refine j_iconst (pc := 198) dX2_init_198 rfl ?_
  refine j_room (cl' := 5 + 1) (sl' := 3035 + 5) (by omega) (by omega) ?_
  refine j1_newa (i := 5) (N := 5) (atype := .int) hal (Or.inl ⟨rfl, rfl⟩) q141 (by omega) (by omega) (by omega) dX2_init_199 (fun a_199 h_199 n_199 e_199 => ?_)
  have z_922 : h_199 a_7 = some (aA 1 72 (fun _ => 0)) := by rw [e_199]; exact upH_old z_896 n_199
  have z_923 : h_199 a_15 = some (aA 0 36 (fun _ => 0)) := by rw [e_199]; exact upH_old z_897 n_199
  have ne_924 : a_15 ≠ a_199 := fresh_ne z_897 n_199
  have z_925 : h_199 a_23 = some (aA 0 36 (fun _ => 0)) := by rw [e_199]; exact upH_old z_898 n_199
  have ne_926 : a_23 ≠ a_199 := fresh_ne z_898 n_199
  have z_927 : h_199 a_30 = some (aA 0 5 (fun _ => 0)) := by rw [e_199]; exact upH_old z_899 n_199
  have ne_928 : a_30 ≠ a_199 := fresh_ne z_899 n_199
  have z_929 : h_199 a_37 = some (aA 0 5 (fun _ => 0)) := by rw [e_199]; exact upH_old z_900 n_199
  have ne_930 : a_37 ≠ a_199 := fresh_ne z_900 n_199
  have z_931 : h_199 a_45 = some (aA 0 20 (fun _ => 0)) := by rw [e_199]; exact upH_old z_901 n_199
  have ne_932 : a_45 ≠ a_199 := fresh_ne z_901 n_199
  have z_933 : h_199 a_53 = some (aA 1 20 (fun _ => 0)) := by rw [e_199]; exact upH_old z_902 n_199
  have z_934 : h_199 a_62 = some (aA 0 540 (fun _ => 0)) := by rw [e_199]; exact upH_old z_903 n_199
  have ne_935 : a_62 ≠ a_199 := fresh_ne z_903 n_199
  have z_936 : h_199 a_71 = some (aA 0 540 (fun _ => 0)) := by rw [e_199]; exact upH_old z_904 n_199
  have ne_937 : a_71 ≠ a_199 := fresh_ne z_904 n_199
  have z_938 : h_199 a_80 = some (aA 0 540 (fun _ => 0)) := by rw [e_199]; exact upH_old z_905 n_199
  have ne_939 : a_80 ≠ a_199 := fresh_ne z_905 n_199
  have z_940 : h_199 a_92 = some (aA 0 5 (fun _ => 0)) := by rw [e_199]; exact upH_old z_906 n_199
  have ne_941 : a_92 ≠ a_199 := fresh_ne z_906 n_199
  have z_942 : h_199 a_100 = some (aA 0 20 (fun _ => 0)) := by rw [e_199]; exact upH_old z_907 n_199
  have ne_943 : a_100 ≠ a_199 := fresh_ne z_907 n_199
  have z_944 : h_199 a_107 = some (aA 0 5 (fun _ => 0)) := by rw [e_199]; exact upH_old z_908 n_199
  have ne_945 : a_107 ≠ a_199 := fresh_ne z_908 n_199
  have z_946 : h_199 a_115 = some (aA 1 20 (fun _ => 0)) := by rw [e_199]; exact upH_old z_909 n_199
  have z_947 : h_199 a_123 = some (aA 0 60 (fun _ => 0)) := by rw [e_199]; exact upH_old z_910 n_199
  have ne_948 : a_123 ≠ a_199 := fresh_ne z_910 n_199
  have z_949 : h_199 a_131 = some (aA 0 60 (fun _ => 0)) := by rw [e_199]; exact upH_old z_911 n_199
  have ne_950 : a_131 ≠ a_199 := fresh_ne z_911 n_199
  have z_951 : h_199 a_139 = some (aA 0 60 (fun _ => 0)) := by rw [e_199]; exact upH_old z_912 n_199
  have ne_952 : a_139 ≠ a_199 := fresh_ne z_912 n_199
  have z_953 : h_199 a_147 = some (aA 0 100 (fun _ => 0)) := by rw [e_199]; exact upH_old z_913 n_199
  have ne_954 : a_147 ≠ a_199 := fresh_ne z_913 n_199
  have z_955 : h_199 a_154 = some (aA 0 5 (fun _ => 0)) := by rw [e_199]; exact upH_old z_914 n_199
  have ne_956 : a_154 ≠ a_199 := fresh_ne z_914 n_199
  have z_957 : h_199 a_163 = some (aA 0 240 (fun _ => 0)) := by rw [e_199]; exact upH_old z_915 n_199
  have ne_958 : a_163 ≠ a_199 := fresh_ne z_915 n_199
  have z_959 : h_199 a_171 = some (aA 0 40 (fun _ => 0)) := by rw [e_199]; exact upH_old z_916 n_199
  have ne_960 : a_171 ≠ a_199 := fresh_ne z_916 n_199
  have z_961 : h_199 a_178 = some (aA 0 5 (fun _ => 0)) := by rw [e_199]; exact upH_old z_917 n_199
  have ne_962 : a_178 ≠ a_199 := fresh_ne z_917 n_199
  have z_963 : h_199 a_185 = some (aA 0 5 (fun _ => 0)) := by rw [e_199]; exact upH_old z_918 n_199
  have ne_964 : a_185 ≠ a_199 := fresh_ne z_918 n_199
  have z_965 : h_199 a_192 = some (aA 0 4 (fun _ => 0)) := by rw [e_199]; exact upH_old z_919 n_199
  have ne_966 : a_192 ≠ a_199 := fresh_ne z_919 n_199
  have z_967 : h_199 o = some (aO 1 [IV 0, .ref a_7, .ref a_15, .ref a_23, .ref a_30, .ref a_37, IV 0, .ref a_45, .ref a_53, IV 0, .ref a_62, .ref a_71, .ref a_80, IV 0, IV 0, IV 0, IV 0, IV 0, .ref a_92, IV 0, .ref a_100, .ref a_107, .ref a_115, .ref a_123, .ref a_131, .ref a_139, IV 0, .ref a_147, .ref a_154, .ref a_163, .ref a_171, .ref a_178, .ref a_185, .ref a_192, .null, .null, .null, IV 0, IV 0, .null, .null, .null, IV 0, IV 0]) := by rw [e_199]; exact upH_old z_920 n_199
  have z_968 : h_199 a_199 = some (aA 0 5 (fun _ => 0)) := by rw [e_199]; exact upH_self _ _ _
  have nd_969 : [a_199, a_192, a_185, a_178, a_171, a_163, a_154, a_147, a_139, a_131, a_123, a_115, a_107, a_100, a_92, a_80, a_71, a_62, a_53, a_45, a_37, a_30, a_23, a_15, a_7].Nodup ∧ ∀ b ∈ [a_199, a_192, a_185, a_178, a_171, a_163, a_154, a_147, a_139, a_131, a_123, a_115, a_107, a_100, a_92, a_80, a_71, a_62, a_53, a_45, a_37, a_30, a_23, a_15, a_7], h_199 b ≠ none := nd_new nd_921 n_199 e_199
  have no_a_199 : a_199 ≠ o := Ne.symm (fresh_ne z_920 n_199)
  refine j1_putF rfl fp_X2_87_X2 z_967 (Nat.le_of_ble_eq_true rfl) rfl rfl dX2_init_201 (fun h_201 e_201 => ?_)
  have z_970 : h_201 a_7 = some (aA 1 72 (fun _ => 0)) := by rw [e_201]; exact upH_k z_922 z_967 (by intro z; cases z)
  have z_971 : h_201 a_15 = some (aA 0 36 (fun _ => 0)) := by rw [e_201]; exact upH_k z_923 z_967 (by intro z; cases z)
  have z_972 : h_201 a_23 = some (aA 0 36 (fun _ => 0)) := by rw [e_201]; exact upH_k z_925 z_967 (by intro z; cases z)
  have z_973 : h_201 a_30 = some (aA 0 5 (fun _ => 0)) := by rw [e_201]; exact upH_k z_927 z_967 (by intro z; cases z)
  have z_974 : h_201 a_37 = some (aA 0 5 (fun _ => 0)) := by rw [e_201]; exact upH_k z_929 z_967 (by intro z; cases z)
  have z_975 : h_201 a_45 = some (aA 0 20 (fun _ => 0)) := by rw [e_201]; exact upH_k z_931 z_967 (by intro z; cases z)
  have z_976 : h_201 a_53 = some (aA 1 20 (fun _ => 0)) := by rw [e_201]; exact upH_k z_933 z_967 (by intro z; cases z)
  have z_977 : h_201 a_62 = some (aA 0 540 (fun _ => 0)) := by rw [e_201]; exact upH_k z_934 z_967 (by intro z; cases z)
  have z_978 : h_201 a_71 = some (aA 0 540 (fun _ => 0)) := by rw [e_201]; exact upH_k z_936 z_967 (by intro z; cases z)
  have z_979 : h_201 a_80 = some (aA 0 540 (fun _ => 0)) := by rw [e_201]; exact upH_k z_938 z_967 (by intro z; cases z)
  have z_980 : h_201 a_92 = some (aA 0 5 (fun _ => 0)) := by rw [e_201]; exact upH_k z_940 z_967 (by intro z; cases z)
  have z_981 : h_201 a_100 = some (aA 0 20 (fun _ => 0)) := by rw [e_201]; exact upH_k z_942 z_967 (by intro z; cases z)
  have z_982 : h_201 a_107 = some (aA 0 5 (fun _ => 0)) := by rw [e_201]; exact upH_k z_944 z_967 (by intro z; cases z)
  have z_983 : h_201 a_115 = some (aA 1 20 (fun _ => 0)) := by rw [e_201]; exact upH_k z_946 z_967 (by intro z; cases z)
  have z_984 : h_201 a_123 = some (aA 0 60 (fun _ => 0)) := by rw [e_201]; exact upH_k z_947 z_967 (by intro z; cases z)
  have z_985 : h_201 a_131 = some (aA 0 60 (fun _ => 0)) := by rw [e_201]; exact upH_k z_949 z_967 (by intro z; cases z)
  have z_986 : h_201 a_139 = some (aA 0 60 (fun _ => 0)) := by rw [e_201]; exact upH_k z_951 z_967 (by intro z; cases z)
  have z_987 : h_201 a_147 = some (aA 0 100 (fun _ => 0)) := by rw [e_201]; exact upH_k z_953 z_967 (by intro z; cases z)
  have z_988 : h_201 a_154 = some (aA 0 5 (fun _ => 0)) := by rw [e_201]; exact upH_k z_955 z_967 (by intro z; cases z)
  have z_989 : h_201 a_163 = some (aA 0 240 (fun _ => 0)) := by rw [e_201]; exact upH_k z_957 z_967 (by intro z; cases z)
  have z_990 : h_201 a_171 = some (aA 0 40 (fun _ => 0)) := by rw [e_201]; exact upH_k z_959 z_967 (by intro z; cases z)
  have z_991 : h_201 a_178 = some (aA 0 5 (fun _ => 0)) := by rw [e_201]; exact upH_k z_961 z_967 (by intro z; cases z)
  have z_992 : h_201 a_185 = some (aA 0 5 (fun _ => 0)) := by rw [e_201]; exact upH_k z_963 z_967 (by intro z; cases z)
  have z_993 : h_201 a_192 = some (aA 0 4 (fun _ => 0)) := by rw [e_201]; exact upH_k z_965 z_967 (by intro z; cases z)
  have z_994 : h_201 a_199 = some (aA 0 5 (fun _ => 0)) := by rw [e_201]; exact upH_k z_968 z_967 (by intro z; cases z)
  have z_995 : h_201 o = some (aO 1 [IV 0, .ref a_7, .ref a_15, .ref a_23, .ref a_30, .ref a_37, IV 0, .ref a_45, .ref a_53, IV 0, .ref a_62, .ref a_71, .ref a_80, IV 0, IV 0, IV 0, IV 0, IV 0, .ref a_92, IV 0, .ref a_100, .ref a_107, .ref a_115, .ref a_123, .ref a_131, .ref a_139, IV 0, .ref a_147, .ref a_154, .ref a_163, .ref a_171, .ref a_178, .ref a_185, .ref a_192, .ref a_199, .null, .null, IV 0, IV 0, .null, .null, .null, IV 0, IV 0]) := by rw [e_201]; exact upH_self _ _ _
  have nd_996 : [a_199, a_192, a_185, a_178, a_171, a_163, a_154, a_147, a_139, a_131, a_123, a_115, a_107, a_100, a_92, a_80, a_71, a_62, a_53, a_45, a_37, a_30, a_23, a_15, a_7].Nodup ∧ ∀ b ∈ [a_199, a_192, a_185, a_178, a_171, a_163, a_154, a_147, a_139, a_131, a_123, a_115, a_107, a_100, a_92, a_80, a_71, a_62, a_53, a_45, a_37, a_30, a_23, a_15, a_7], h_201 b ≠ none := nd_put nd_969 e_201
  refine j_aload_n (pc := 204) dX2_init_204 rfl ?_
  refine j_iconst (pc := 205) dX2_init_205 rfl ?_
  refine j_room (cl' := 4 + 1) (sl' := 3030 + 5) (by omega) (by omega) ?_
  refine j1_newa (i := 5) (N := 5) (atype := .int) hal (Or.inl ⟨rfl, rfl⟩) q141 (by omega) (by omega) (by omega) dX2_init_206 (fun a_206 h_206 n_206 e_206 => ?_)
  have z_997 : h_206 a_7 = some (aA 1 72 (fun _ => 0)) := by rw [e_206]; exact upH_old z_970 n_206
  have z_998 : h_206 a_15 = some (aA 0 36 (fun _ => 0)) := by rw [e_206]; exact upH_old z_971 n_206
  have ne_999 : a_15 ≠ a_206 := fresh_ne z_971 n_206
  have z_1000 : h_206 a_23 = some (aA 0 36 (fun _ => 0)) := by rw [e_206]; exact upH_old z_972 n_206
  have ne_1001 : a_23 ≠ a_206 := fresh_ne z_972 n_206
  have z_1002 : h_206 a_30 = some (aA 0 5 (fun _ => 0)) := by rw [e_206]; exact upH_old z_973 n_206
  have ne_1003 : a_30 ≠ a_206 := fresh_ne z_973 n_206
  have z_1004 : h_206 a_37 = some (aA 0 5 (fun _ => 0)) := by rw [e_206]; exact upH_old z_974 n_206
  have ne_1005 : a_37 ≠ a_206 := fresh_ne z_974 n_206
  have z_1006 : h_206 a_45 = some (aA 0 20 (fun _ => 0)) := by rw [e_206]; exact upH_old z_975 n_206
  have ne_1007 : a_45 ≠ a_206 := fresh_ne z_975 n_206
  have z_1008 : h_206 a_53 = some (aA 1 20 (fun _ => 0)) := by rw [e_206]; exact upH_old z_976 n_206
  have z_1009 : h_206 a_62 = some (aA 0 540 (fun _ => 0)) := by rw [e_206]; exact upH_old z_977 n_206
  have ne_1010 : a_62 ≠ a_206 := fresh_ne z_977 n_206
  have z_1011 : h_206 a_71 = some (aA 0 540 (fun _ => 0)) := by rw [e_206]; exact upH_old z_978 n_206
  have ne_1012 : a_71 ≠ a_206 := fresh_ne z_978 n_206
  have z_1013 : h_206 a_80 = some (aA 0 540 (fun _ => 0)) := by rw [e_206]; exact upH_old z_979 n_206
  have ne_1014 : a_80 ≠ a_206 := fresh_ne z_979 n_206
  have z_1015 : h_206 a_92 = some (aA 0 5 (fun _ => 0)) := by rw [e_206]; exact upH_old z_980 n_206
  have ne_1016 : a_92 ≠ a_206 := fresh_ne z_980 n_206
  have z_1017 : h_206 a_100 = some (aA 0 20 (fun _ => 0)) := by rw [e_206]; exact upH_old z_981 n_206
  have ne_1018 : a_100 ≠ a_206 := fresh_ne z_981 n_206
  have z_1019 : h_206 a_107 = some (aA 0 5 (fun _ => 0)) := by rw [e_206]; exact upH_old z_982 n_206
  have ne_1020 : a_107 ≠ a_206 := fresh_ne z_982 n_206
  have z_1021 : h_206 a_115 = some (aA 1 20 (fun _ => 0)) := by rw [e_206]; exact upH_old z_983 n_206
  have z_1022 : h_206 a_123 = some (aA 0 60 (fun _ => 0)) := by rw [e_206]; exact upH_old z_984 n_206
  have ne_1023 : a_123 ≠ a_206 := fresh_ne z_984 n_206
  have z_1024 : h_206 a_131 = some (aA 0 60 (fun _ => 0)) := by rw [e_206]; exact upH_old z_985 n_206
  have ne_1025 : a_131 ≠ a_206 := fresh_ne z_985 n_206
  have z_1026 : h_206 a_139 = some (aA 0 60 (fun _ => 0)) := by rw [e_206]; exact upH_old z_986 n_206
  have ne_1027 : a_139 ≠ a_206 := fresh_ne z_986 n_206
  have z_1028 : h_206 a_147 = some (aA 0 100 (fun _ => 0)) := by rw [e_206]; exact upH_old z_987 n_206
  have ne_1029 : a_147 ≠ a_206 := fresh_ne z_987 n_206
  have z_1030 : h_206 a_154 = some (aA 0 5 (fun _ => 0)) := by rw [e_206]; exact upH_old z_988 n_206
  have ne_1031 : a_154 ≠ a_206 := fresh_ne z_988 n_206
  have z_1032 : h_206 a_163 = some (aA 0 240 (fun _ => 0)) := by rw [e_206]; exact upH_old z_989 n_206
  have ne_1033 : a_163 ≠ a_206 := fresh_ne z_989 n_206
  have z_1034 : h_206 a_171 = some (aA 0 40 (fun _ => 0)) := by rw [e_206]; exact upH_old z_990 n_206
  have ne_1035 : a_171 ≠ a_206 := fresh_ne z_990 n_206
  have z_1036 : h_206 a_178 = some (aA 0 5 (fun _ => 0)) := by rw [e_206]; exact upH_old z_991 n_206
  have ne_1037 : a_178 ≠ a_206 := fresh_ne z_991 n_206
  have z_1038 : h_206 a_185 = some (aA 0 5 (fun _ => 0)) := by rw [e_206]; exact upH_old z_992 n_206
  have ne_1039 : a_185 ≠ a_206 := fresh_ne z_992 n_206
  have z_1040 : h_206 a_192 = some (aA 0 4 (fun _ => 0)) := by rw [e_206]; exact upH_old z_993 n_206
  have ne_1041 : a_192 ≠ a_206 := fresh_ne z_993 n_206
  have z_1042 : h_206 a_199 = some (aA 0 5 (fun _ => 0)) := by rw [e_206]; exact upH_old z_994 n_206
  have ne_1043 : a_199 ≠ a_206 := fresh_ne z_994 n_206
  have z_1044 : h_206 o = some (aO 1 [IV 0, .ref a_7, .ref a_15, .ref a_23, .ref a_30, .ref a_37, IV 0, .ref a_45, .ref a_53, IV 0, .ref a_62, .ref a_71, .ref a_80, IV 0, IV 0, IV 0, IV 0, IV 0, .ref a_92, IV 0, .ref a_100, .ref a_107, .ref a_115, .ref a_123, .ref a_131, .ref a_139, IV 0, .ref a_147, .ref a_154, .ref a_163, .ref a_171, .ref a_178, .ref a_185, .ref a_192, .ref a_199, .null, .null, IV 0, IV 0, .null, .null, .null, IV 0, IV 0]) := by rw [e_206]; exact upH_old z_995 n_206
  have z_1045 : h_206 a_206 = some (aA 0 5 (fun _ => 0)) := by rw [e_206]; exact upH_self _ _ _
  have nd_1046 : [a_206, a_199, a_192, a_185, a_178, a_171, a_163, a_154, a_147, a_139, a_131, a_123, a_115, a_107, a_100, a_92, a_80, a_71, a_62, a_53, a_45, a_37, a_30, a_23, a_15, a_7].Nodup ∧ ∀ b ∈ [a_206, a_199, a_192, a_185, a_178, a_171, a_163, a_154, a_147, a_139, a_131, a_123, a_115, a_107, a_100, a_92, a_80, a_71, a_62, a_53, a_45, a_37, a_30, a_23, a_15, a_7], h_206 b ≠ none := nd_new nd_996 n_206 e_206
  have no_a_206 : a_206 ≠ o := Ne.symm (fresh_ne z_995 n_206)
  refine j1_putF rfl fp_X2_90_X2 z_1044 (Nat.le_of_ble_eq_true rfl) rfl rfl dX2_init_208 (fun h_208 e_208 => ?_)
  have z_1047 : h_208 a_7 = some (aA 1 72 (fun _ => 0)) := by rw [e_208]; exact upH_k z_997 z_1044 (by intro z; cases z)
  have z_1048 : h_208 a_15 = some (aA 0 36 (fun _ => 0)) := by rw [e_208]; exact upH_k z_998 z_1044 (by intro z; cases z)
  have z_1049 : h_208 a_23 = some (aA 0 36 (fun _ => 0)) := by rw [e_208]; exact upH_k z_1000 z_1044 (by intro z; cases z)
  have z_1050 : h_208 a_30 = some (aA 0 5 (fun _ => 0)) := by rw [e_208]; exact upH_k z_1002 z_1044 (by intro z; cases z)
  have z_1051 : h_208 a_37 = some (aA 0 5 (fun _ => 0)) := by rw [e_208]; exact upH_k z_1004 z_1044 (by intro z; cases z)
  have z_1052 : h_208 a_45 = some (aA 0 20 (fun _ => 0)) := by rw [e_208]; exact upH_k z_1006 z_1044 (by intro z; cases z)
  have z_1053 : h_208 a_53 = some (aA 1 20 (fun _ => 0)) := by rw [e_208]; exact upH_k z_1008 z_1044 (by intro z; cases z)
  have z_1054 : h_208 a_62 = some (aA 0 540 (fun _ => 0)) := by rw [e_208]; exact upH_k z_1009 z_1044 (by intro z; cases z)
  have z_1055 : h_208 a_71 = some (aA 0 540 (fun _ => 0)) := by rw [e_208]; exact upH_k z_1011 z_1044 (by intro z; cases z)
  have z_1056 : h_208 a_80 = some (aA 0 540 (fun _ => 0)) := by rw [e_208]; exact upH_k z_1013 z_1044 (by intro z; cases z)
  have z_1057 : h_208 a_92 = some (aA 0 5 (fun _ => 0)) := by rw [e_208]; exact upH_k z_1015 z_1044 (by intro z; cases z)
  have z_1058 : h_208 a_100 = some (aA 0 20 (fun _ => 0)) := by rw [e_208]; exact upH_k z_1017 z_1044 (by intro z; cases z)
  have z_1059 : h_208 a_107 = some (aA 0 5 (fun _ => 0)) := by rw [e_208]; exact upH_k z_1019 z_1044 (by intro z; cases z)
  have z_1060 : h_208 a_115 = some (aA 1 20 (fun _ => 0)) := by rw [e_208]; exact upH_k z_1021 z_1044 (by intro z; cases z)
  have z_1061 : h_208 a_123 = some (aA 0 60 (fun _ => 0)) := by rw [e_208]; exact upH_k z_1022 z_1044 (by intro z; cases z)
  have z_1062 : h_208 a_131 = some (aA 0 60 (fun _ => 0)) := by rw [e_208]; exact upH_k z_1024 z_1044 (by intro z; cases z)
  have z_1063 : h_208 a_139 = some (aA 0 60 (fun _ => 0)) := by rw [e_208]; exact upH_k z_1026 z_1044 (by intro z; cases z)
  have z_1064 : h_208 a_147 = some (aA 0 100 (fun _ => 0)) := by rw [e_208]; exact upH_k z_1028 z_1044 (by intro z; cases z)
  have z_1065 : h_208 a_154 = some (aA 0 5 (fun _ => 0)) := by rw [e_208]; exact upH_k z_1030 z_1044 (by intro z; cases z)
  have z_1066 : h_208 a_163 = some (aA 0 240 (fun _ => 0)) := by rw [e_208]; exact upH_k z_1032 z_1044 (by intro z; cases z)
  have z_1067 : h_208 a_171 = some (aA 0 40 (fun _ => 0)) := by rw [e_208]; exact upH_k z_1034 z_1044 (by intro z; cases z)
  have z_1068 : h_208 a_178 = some (aA 0 5 (fun _ => 0)) := by rw [e_208]; exact upH_k z_1036 z_1044 (by intro z; cases z)
  have z_1069 : h_208 a_185 = some (aA 0 5 (fun _ => 0)) := by rw [e_208]; exact upH_k z_1038 z_1044 (by intro z; cases z)
  have z_1070 : h_208 a_192 = some (aA 0 4 (fun _ => 0)) := by rw [e_208]; exact upH_k z_1040 z_1044 (by intro z; cases z)
  have z_1071 : h_208 a_199 = some (aA 0 5 (fun _ => 0)) := by rw [e_208]; exact upH_k z_1042 z_1044 (by intro z; cases z)
  have z_1072 : h_208 a_206 = some (aA 0 5 (fun _ => 0)) := by rw [e_208]; exact upH_k z_1045 z_1044 (by intro z; cases z)
  have z_1073 : h_208 o = some (aO 1 [IV 0, .ref a_7, .ref a_15, .ref a_23, .ref a_30, .ref a_37, IV 0, .ref a_45, .ref a_53, IV 0, .ref a_62, .ref a_71, .ref a_80, IV 0, IV 0, IV 0, IV 0, IV 0, .ref a_92, IV 0, .ref a_100, .ref a_107, .ref a_115, .ref a_123, .ref a_131, .ref a_139, IV 0, .ref a_147, .ref a_154, .ref a_163, .ref a_171, .ref a_178, .ref a_185, .ref a_192, .ref a_199, .ref a_206, .null, IV 0, IV 0, .null, .null, .null, IV 0, IV 0]) := by rw [e_208]; exact upH_self _ _ _
  have nd_1074 : [a_206, a_199, a_192, a_185, a_178, a_171, a_163, a_154, a_147, a_139, a_131, a_123, a_115, a_107, a_100, a_92, a_80, a_71, a_62, a_53, a_45, a_37, a_30, a_23, a_15, a_7].Nodup ∧ ∀ b ∈ [a_206, a_199, a_192, a_185, a_178, a_171, a_163, a_154, a_147, a_139, a_131, a_123, a_115, a_107, a_100, a_92, a_80, a_71, a_62, a_53, a_45, a_37, a_30, a_23, a_15, a_7], h_208 b ≠ none := nd_put nd_1046 e_208
  refine j_aload_n (pc := 211) dX2_init_211 rfl ?_
  refine j_bipush (pc := 212) (a := 30) dX2_init_212 (by decide) ?_
  refine j_room (cl' := 3 + 1) (sl' := 3000 + 30) (by omega) (by omega) ?_
  refine j1_newa (i := 30) (N := 30) (atype := .int) hal (Or.inl ⟨rfl, rfl⟩) q141 (by omega) (by omega) (by omega) dX2_init_214 (fun a_214 h_214 n_214 e_214 => ?_)
  have z_1075 : h_214 a_7 = some (aA 1 72 (fun _ => 0)) := by rw [e_214]; exact upH_old z_1047 n_214
  have z_1076 : h_214 a_15 = some (aA 0 36 (fun _ => 0)) := by rw [e_214]; exact upH_old z_1048 n_214
  have ne_1077 : a_15 ≠ a_214 := fresh_ne z_1048 n_214
  have z_1078 : h_214 a_23 = some (aA 0 36 (fun _ => 0)) := by rw [e_214]; exact upH_old z_1049 n_214
  have ne_1079 : a_23 ≠ a_214 := fresh_ne z_1049 n_214
  have z_1080 : h_214 a_30 = some (aA 0 5 (fun _ => 0)) := by rw [e_214]; exact upH_old z_1050 n_214
  have ne_1081 : a_30 ≠ a_214 := fresh_ne z_1050 n_214
  have z_1082 : h_214 a_37 = some (aA 0 5 (fun _ => 0)) := by rw [e_214]; exact upH_old z_1051 n_214
  have ne_1083 : a_37 ≠ a_214 := fresh_ne z_1051 n_214
  have z_1084 : h_214 a_45 = some (aA 0 20 (fun _ => 0)) := by rw [e_214]; exact upH_old z_1052 n_214
  have ne_1085 : a_45 ≠ a_214 := fresh_ne z_1052 n_214
  have z_1086 : h_214 a_53 = some (aA 1 20 (fun _ => 0)) := by rw [e_214]; exact upH_old z_1053 n_214
  have z_1087 : h_214 a_62 = some (aA 0 540 (fun _ => 0)) := by rw [e_214]; exact upH_old z_1054 n_214
  have ne_1088 : a_62 ≠ a_214 := fresh_ne z_1054 n_214
  have z_1089 : h_214 a_71 = some (aA 0 540 (fun _ => 0)) := by rw [e_214]; exact upH_old z_1055 n_214
  have ne_1090 : a_71 ≠ a_214 := fresh_ne z_1055 n_214
  have z_1091 : h_214 a_80 = some (aA 0 540 (fun _ => 0)) := by rw [e_214]; exact upH_old z_1056 n_214
  have ne_1092 : a_80 ≠ a_214 := fresh_ne z_1056 n_214
  have z_1093 : h_214 a_92 = some (aA 0 5 (fun _ => 0)) := by rw [e_214]; exact upH_old z_1057 n_214
  have ne_1094 : a_92 ≠ a_214 := fresh_ne z_1057 n_214
  have z_1095 : h_214 a_100 = some (aA 0 20 (fun _ => 0)) := by rw [e_214]; exact upH_old z_1058 n_214
  have ne_1096 : a_100 ≠ a_214 := fresh_ne z_1058 n_214
  have z_1097 : h_214 a_107 = some (aA 0 5 (fun _ => 0)) := by rw [e_214]; exact upH_old z_1059 n_214
  have ne_1098 : a_107 ≠ a_214 := fresh_ne z_1059 n_214
  have z_1099 : h_214 a_115 = some (aA 1 20 (fun _ => 0)) := by rw [e_214]; exact upH_old z_1060 n_214
  have z_1100 : h_214 a_123 = some (aA 0 60 (fun _ => 0)) := by rw [e_214]; exact upH_old z_1061 n_214
  have ne_1101 : a_123 ≠ a_214 := fresh_ne z_1061 n_214
  have z_1102 : h_214 a_131 = some (aA 0 60 (fun _ => 0)) := by rw [e_214]; exact upH_old z_1062 n_214
  have ne_1103 : a_131 ≠ a_214 := fresh_ne z_1062 n_214
  have z_1104 : h_214 a_139 = some (aA 0 60 (fun _ => 0)) := by rw [e_214]; exact upH_old z_1063 n_214
  have ne_1105 : a_139 ≠ a_214 := fresh_ne z_1063 n_214
  have z_1106 : h_214 a_147 = some (aA 0 100 (fun _ => 0)) := by rw [e_214]; exact upH_old z_1064 n_214
  have ne_1107 : a_147 ≠ a_214 := fresh_ne z_1064 n_214
  have z_1108 : h_214 a_154 = some (aA 0 5 (fun _ => 0)) := by rw [e_214]; exact upH_old z_1065 n_214
  have ne_1109 : a_154 ≠ a_214 := fresh_ne z_1065 n_214
  have z_1110 : h_214 a_163 = some (aA 0 240 (fun _ => 0)) := by rw [e_214]; exact upH_old z_1066 n_214
  have ne_1111 : a_163 ≠ a_214 := fresh_ne z_1066 n_214
  have z_1112 : h_214 a_171 = some (aA 0 40 (fun _ => 0)) := by rw [e_214]; exact upH_old z_1067 n_214
  have ne_1113 : a_171 ≠ a_214 := fresh_ne z_1067 n_214
  have z_1114 : h_214 a_178 = some (aA 0 5 (fun _ => 0)) := by rw [e_214]; exact upH_old z_1068 n_214
  have ne_1115 : a_178 ≠ a_214 := fresh_ne z_1068 n_214
  have z_1116 : h_214 a_185 = some (aA 0 5 (fun _ => 0)) := by rw [e_214]; exact upH_old z_1069 n_214
  have ne_1117 : a_185 ≠ a_214 := fresh_ne z_1069 n_214
  have z_1118 : h_214 a_192 = some (aA 0 4 (fun _ => 0)) := by rw [e_214]; exact upH_old z_1070 n_214
  have ne_1119 : a_192 ≠ a_214 := fresh_ne z_1070 n_214
  have z_1120 : h_214 a_199 = some (aA 0 5 (fun _ => 0)) := by rw [e_214]; exact upH_old z_1071 n_214
  have ne_1121 : a_199 ≠ a_214 := fresh_ne z_1071 n_214
  have z_1122 : h_214 a_206 = some (aA 0 5 (fun _ => 0)) := by rw [e_214]; exact upH_old z_1072 n_214
  have ne_1123 : a_206 ≠ a_214 := fresh_ne z_1072 n_214
  have z_1124 : h_214 o = some (aO 1 [IV 0, .ref a_7, .ref a_15, .ref a_23, .ref a_30, .ref a_37, IV 0, .ref a_45, .ref a_53, IV 0, .ref a_62, .ref a_71, .ref a_80, IV 0, IV 0, IV 0, IV 0, IV 0, .ref a_92, IV 0, .ref a_100, .ref a_107, .ref a_115, .ref a_123, .ref a_131, .ref a_139, IV 0, .ref a_147, .ref a_154, .ref a_163, .ref a_171, .ref a_178, .ref a_185, .ref a_192, .ref a_199, .ref a_206, .null, IV 0, IV 0, .null, .null, .null, IV 0, IV 0]) := by rw [e_214]; exact upH_old z_1073 n_214
  have z_1125 : h_214 a_214 = some (aA 0 30 (fun _ => 0)) := by rw [e_214]; exact upH_self _ _ _
  have nd_1126 : [a_214, a_206, a_199, a_192, a_185, a_178, a_171, a_163, a_154, a_147, a_139, a_131, a_123, a_115, a_107, a_100, a_92, a_80, a_71, a_62, a_53, a_45, a_37, a_30, a_23, a_15, a_7].Nodup ∧ ∀ b ∈ [a_214, a_206, a_199, a_192, a_185, a_178, a_171, a_163, a_154, a_147, a_139, a_131, a_123, a_115, a_107, a_100, a_92, a_80, a_71, a_62, a_53, a_45, a_37, a_30, a_23, a_15, a_7], h_214 b ≠ none := nd_new nd_1074 n_214 e_214
  have no_a_214 : a_214 ≠ o := Ne.symm (fresh_ne z_1073 n_214)
  refine j1_putF rfl fp_X2_93_X2 z_1124 (Nat.le_of_ble_eq_true rfl) rfl rfl dX2_init_216 (fun h_216 e_216 => ?_)
  have z_1127 : h_216 a_7 = some (aA 1 72 (fun _ => 0)) := by rw [e_216]; exact upH_k z_1075 z_1124 (by intro z; cases z)
  have z_1128 : h_216 a_15 = some (aA 0 36 (fun _ => 0)) := by rw [e_216]; exact upH_k z_1076 z_1124 (by intro z; cases z)
  have z_1129 : h_216 a_23 = some (aA 0 36 (fun _ => 0)) := by rw [e_216]; exact upH_k z_1078 z_1124 (by intro z; cases z)
  have z_1130 : h_216 a_30 = some (aA 0 5 (fun _ => 0)) := by rw [e_216]; exact upH_k z_1080 z_1124 (by intro z; cases z)
  have z_1131 : h_216 a_37 = some (aA 0 5 (fun _ => 0)) := by rw [e_216]; exact upH_k z_1082 z_1124 (by intro z; cases z)
  have z_1132 : h_216 a_45 = some (aA 0 20 (fun _ => 0)) := by rw [e_216]; exact upH_k z_1084 z_1124 (by intro z; cases z)
  have z_1133 : h_216 a_53 = some (aA 1 20 (fun _ => 0)) := by rw [e_216]; exact upH_k z_1086 z_1124 (by intro z; cases z)
  have z_1134 : h_216 a_62 = some (aA 0 540 (fun _ => 0)) := by rw [e_216]; exact upH_k z_1087 z_1124 (by intro z; cases z)
  have z_1135 : h_216 a_71 = some (aA 0 540 (fun _ => 0)) := by rw [e_216]; exact upH_k z_1089 z_1124 (by intro z; cases z)
  have z_1136 : h_216 a_80 = some (aA 0 540 (fun _ => 0)) := by rw [e_216]; exact upH_k z_1091 z_1124 (by intro z; cases z)
  have z_1137 : h_216 a_92 = some (aA 0 5 (fun _ => 0)) := by rw [e_216]; exact upH_k z_1093 z_1124 (by intro z; cases z)
  have z_1138 : h_216 a_100 = some (aA 0 20 (fun _ => 0)) := by rw [e_216]; exact upH_k z_1095 z_1124 (by intro z; cases z)
  have z_1139 : h_216 a_107 = some (aA 0 5 (fun _ => 0)) := by rw [e_216]; exact upH_k z_1097 z_1124 (by intro z; cases z)
  have z_1140 : h_216 a_115 = some (aA 1 20 (fun _ => 0)) := by rw [e_216]; exact upH_k z_1099 z_1124 (by intro z; cases z)
  have z_1141 : h_216 a_123 = some (aA 0 60 (fun _ => 0)) := by rw [e_216]; exact upH_k z_1100 z_1124 (by intro z; cases z)
  have z_1142 : h_216 a_131 = some (aA 0 60 (fun _ => 0)) := by rw [e_216]; exact upH_k z_1102 z_1124 (by intro z; cases z)
  have z_1143 : h_216 a_139 = some (aA 0 60 (fun _ => 0)) := by rw [e_216]; exact upH_k z_1104 z_1124 (by intro z; cases z)
  have z_1144 : h_216 a_147 = some (aA 0 100 (fun _ => 0)) := by rw [e_216]; exact upH_k z_1106 z_1124 (by intro z; cases z)
  have z_1145 : h_216 a_154 = some (aA 0 5 (fun _ => 0)) := by rw [e_216]; exact upH_k z_1108 z_1124 (by intro z; cases z)
  have z_1146 : h_216 a_163 = some (aA 0 240 (fun _ => 0)) := by rw [e_216]; exact upH_k z_1110 z_1124 (by intro z; cases z)
  have z_1147 : h_216 a_171 = some (aA 0 40 (fun _ => 0)) := by rw [e_216]; exact upH_k z_1112 z_1124 (by intro z; cases z)
  have z_1148 : h_216 a_178 = some (aA 0 5 (fun _ => 0)) := by rw [e_216]; exact upH_k z_1114 z_1124 (by intro z; cases z)
  have z_1149 : h_216 a_185 = some (aA 0 5 (fun _ => 0)) := by rw [e_216]; exact upH_k z_1116 z_1124 (by intro z; cases z)
  have z_1150 : h_216 a_192 = some (aA 0 4 (fun _ => 0)) := by rw [e_216]; exact upH_k z_1118 z_1124 (by intro z; cases z)
  have z_1151 : h_216 a_199 = some (aA 0 5 (fun _ => 0)) := by rw [e_216]; exact upH_k z_1120 z_1124 (by intro z; cases z)
  have z_1152 : h_216 a_206 = some (aA 0 5 (fun _ => 0)) := by rw [e_216]; exact upH_k z_1122 z_1124 (by intro z; cases z)
  have z_1153 : h_216 a_214 = some (aA 0 30 (fun _ => 0)) := by rw [e_216]; exact upH_k z_1125 z_1124 (by intro z; cases z)
  have z_1154 : h_216 o = some (aO 1 [IV 0, .ref a_7, .ref a_15, .ref a_23, .ref a_30, .ref a_37, IV 0, .ref a_45, .ref a_53, IV 0, .ref a_62, .ref a_71, .ref a_80, IV 0, IV 0, IV 0, IV 0, IV 0, .ref a_92, IV 0, .ref a_100, .ref a_107, .ref a_115, .ref a_123, .ref a_131, .ref a_139, IV 0, .ref a_147, .ref a_154, .ref a_163, .ref a_171, .ref a_178, .ref a_185, .ref a_192, .ref a_199, .ref a_206, .ref a_214, IV 0, IV 0, .null, .null, .null, IV 0, IV 0]) := by rw [e_216]; exact upH_self _ _ _
  have nd_1155 : [a_214, a_206, a_199, a_192, a_185, a_178, a_171, a_163, a_154, a_147, a_139, a_131, a_123, a_115, a_107, a_100, a_92, a_80, a_71, a_62, a_53, a_45, a_37, a_30, a_23, a_15, a_7].Nodup ∧ ∀ b ∈ [a_214, a_206, a_199, a_192, a_185, a_178, a_171, a_163, a_154, a_147, a_139, a_131, a_123, a_115, a_107, a_100, a_92, a_80, a_71, a_62, a_53, a_45, a_37, a_30, a_23, a_15, a_7], h_216 b ≠ none := nd_put nd_1126 e_216
  refine j_aload_n (pc := 219) dX2_init_219 rfl ?_
  refine j_sipush (pc := 220) (a := 1000) dX2_init_220 (by decide) ?_
  refine j_room (cl' := 2 + 1) (sl' := 2000 + 1000) (by omega) (by omega) ?_
  refine j1_newa (i := 1000) (N := 1000) (atype := .int) hal (Or.inl ⟨rfl, rfl⟩) q141 (by omega) (by omega) (by omega) dX2_init_223 (fun a_223 h_223 n_223 e_223 => ?_)
  have z_1156 : h_223 a_7 = some (aA 1 72 (fun _ => 0)) := by rw [e_223]; exact upH_old z_1127 n_223
  have z_1157 : h_223 a_15 = some (aA 0 36 (fun _ => 0)) := by rw [e_223]; exact upH_old z_1128 n_223
  have ne_1158 : a_15 ≠ a_223 := fresh_ne z_1128 n_223
  have z_1159 : h_223 a_23 = some (aA 0 36 (fun _ => 0)) := by rw [e_223]; exact upH_old z_1129 n_223
  have ne_1160 : a_23 ≠ a_223 := fresh_ne z_1129 n_223
  have z_1161 : h_223 a_30 = some (aA 0 5 (fun _ => 0)) := by rw [e_223]; exact upH_old z_1130 n_223
  have ne_1162 : a_30 ≠ a_223 := fresh_ne z_1130 n_223
  have z_1163 : h_223 a_37 = some (aA 0 5 (fun _ => 0)) := by rw [e_223]; exact upH_old z_1131 n_223
  have ne_1164 : a_37 ≠ a_223 := fresh_ne z_1131 n_223
  have z_1165 : h_223 a_45 = some (aA 0 20 (fun _ => 0)) := by rw [e_223]; exact upH_old z_1132 n_223
  have ne_1166 : a_45 ≠ a_223 := fresh_ne z_1132 n_223
  have z_1167 : h_223 a_53 = some (aA 1 20 (fun _ => 0)) := by rw [e_223]; exact upH_old z_1133 n_223
  have z_1168 : h_223 a_62 = some (aA 0 540 (fun _ => 0)) := by rw [e_223]; exact upH_old z_1134 n_223
  have ne_1169 : a_62 ≠ a_223 := fresh_ne z_1134 n_223
  have z_1170 : h_223 a_71 = some (aA 0 540 (fun _ => 0)) := by rw [e_223]; exact upH_old z_1135 n_223
  have ne_1171 : a_71 ≠ a_223 := fresh_ne z_1135 n_223
  have z_1172 : h_223 a_80 = some (aA 0 540 (fun _ => 0)) := by rw [e_223]; exact upH_old z_1136 n_223
  have ne_1173 : a_80 ≠ a_223 := fresh_ne z_1136 n_223
  have z_1174 : h_223 a_92 = some (aA 0 5 (fun _ => 0)) := by rw [e_223]; exact upH_old z_1137 n_223
  have ne_1175 : a_92 ≠ a_223 := fresh_ne z_1137 n_223
  have z_1176 : h_223 a_100 = some (aA 0 20 (fun _ => 0)) := by rw [e_223]; exact upH_old z_1138 n_223
  have ne_1177 : a_100 ≠ a_223 := fresh_ne z_1138 n_223
  have z_1178 : h_223 a_107 = some (aA 0 5 (fun _ => 0)) := by rw [e_223]; exact upH_old z_1139 n_223
  have ne_1179 : a_107 ≠ a_223 := fresh_ne z_1139 n_223
  have z_1180 : h_223 a_115 = some (aA 1 20 (fun _ => 0)) := by rw [e_223]; exact upH_old z_1140 n_223
  have z_1181 : h_223 a_123 = some (aA 0 60 (fun _ => 0)) := by rw [e_223]; exact upH_old z_1141 n_223
  have ne_1182 : a_123 ≠ a_223 := fresh_ne z_1141 n_223
  have z_1183 : h_223 a_131 = some (aA 0 60 (fun _ => 0)) := by rw [e_223]; exact upH_old z_1142 n_223
  have ne_1184 : a_131 ≠ a_223 := fresh_ne z_1142 n_223
  have z_1185 : h_223 a_139 = some (aA 0 60 (fun _ => 0)) := by rw [e_223]; exact upH_old z_1143 n_223
  have ne_1186 : a_139 ≠ a_223 := fresh_ne z_1143 n_223
  have z_1187 : h_223 a_147 = some (aA 0 100 (fun _ => 0)) := by rw [e_223]; exact upH_old z_1144 n_223
  have ne_1188 : a_147 ≠ a_223 := fresh_ne z_1144 n_223
  have z_1189 : h_223 a_154 = some (aA 0 5 (fun _ => 0)) := by rw [e_223]; exact upH_old z_1145 n_223
  have ne_1190 : a_154 ≠ a_223 := fresh_ne z_1145 n_223
  have z_1191 : h_223 a_163 = some (aA 0 240 (fun _ => 0)) := by rw [e_223]; exact upH_old z_1146 n_223
  have ne_1192 : a_163 ≠ a_223 := fresh_ne z_1146 n_223
  have z_1193 : h_223 a_171 = some (aA 0 40 (fun _ => 0)) := by rw [e_223]; exact upH_old z_1147 n_223
  have ne_1194 : a_171 ≠ a_223 := fresh_ne z_1147 n_223
  have z_1195 : h_223 a_178 = some (aA 0 5 (fun _ => 0)) := by rw [e_223]; exact upH_old z_1148 n_223
  have ne_1196 : a_178 ≠ a_223 := fresh_ne z_1148 n_223
  have z_1197 : h_223 a_185 = some (aA 0 5 (fun _ => 0)) := by rw [e_223]; exact upH_old z_1149 n_223
  have ne_1198 : a_185 ≠ a_223 := fresh_ne z_1149 n_223
  have z_1199 : h_223 a_192 = some (aA 0 4 (fun _ => 0)) := by rw [e_223]; exact upH_old z_1150 n_223
  have ne_1200 : a_192 ≠ a_223 := fresh_ne z_1150 n_223
  have z_1201 : h_223 a_199 = some (aA 0 5 (fun _ => 0)) := by rw [e_223]; exact upH_old z_1151 n_223
  have ne_1202 : a_199 ≠ a_223 := fresh_ne z_1151 n_223
  have z_1203 : h_223 a_206 = some (aA 0 5 (fun _ => 0)) := by rw [e_223]; exact upH_old z_1152 n_223
  have ne_1204 : a_206 ≠ a_223 := fresh_ne z_1152 n_223
  have z_1205 : h_223 a_214 = some (aA 0 30 (fun _ => 0)) := by rw [e_223]; exact upH_old z_1153 n_223
  have ne_1206 : a_214 ≠ a_223 := fresh_ne z_1153 n_223
  have z_1207 : h_223 o = some (aO 1 [IV 0, .ref a_7, .ref a_15, .ref a_23, .ref a_30, .ref a_37, IV 0, .ref a_45, .ref a_53, IV 0, .ref a_62, .ref a_71, .ref a_80, IV 0, IV 0, IV 0, IV 0, IV 0, .ref a_92, IV 0, .ref a_100, .ref a_107, .ref a_115, .ref a_123, .ref a_131, .ref a_139, IV 0, .ref a_147, .ref a_154, .ref a_163, .ref a_171, .ref a_178, .ref a_185, .ref a_192, .ref a_199, .ref a_206, .ref a_214, IV 0, IV 0, .null, .null, .null, IV 0, IV 0]) := by rw [e_223]; exact upH_old z_1154 n_223
  have z_1208 : h_223 a_223 = some (aA 0 1000 (fun _ => 0)) := by rw [e_223]; exact upH_self _ _ _
  have nd_1209 : [a_223, a_214, a_206, a_199, a_192, a_185, a_178, a_171, a_163, a_154, a_147, a_139, a_131, a_123, a_115, a_107, a_100, a_92, a_80, a_71, a_62, a_53, a_45, a_37, a_30, a_23, a_15, a_7].Nodup ∧ ∀ b ∈ [a_223, a_214, a_206, a_199, a_192, a_185, a_178, a_171, a_163, a_154, a_147, a_139, a_131, a_123, a_115, a_107, a_100, a_92, a_80, a_71, a_62, a_53, a_45, a_37, a_30, a_23, a_15, a_7], h_223 b ≠ none := nd_new nd_1155 n_223 e_223
  have no_a_223 : a_223 ≠ o := Ne.symm (fresh_ne z_1154 n_223)
  refine j1_putF rfl fp_X2_96_X2 z_1207 (Nat.le_of_ble_eq_true rfl) rfl rfl dX2_init_225 (fun h_225 e_225 => ?_)
  have z_1210 : h_225 a_7 = some (aA 1 72 (fun _ => 0)) := by rw [e_225]; exact upH_k z_1156 z_1207 (by intro z; cases z)
  have z_1211 : h_225 a_15 = some (aA 0 36 (fun _ => 0)) := by rw [e_225]; exact upH_k z_1157 z_1207 (by intro z; cases z)
  have z_1212 : h_225 a_23 = some (aA 0 36 (fun _ => 0)) := by rw [e_225]; exact upH_k z_1159 z_1207 (by intro z; cases z)
  have z_1213 : h_225 a_30 = some (aA 0 5 (fun _ => 0)) := by rw [e_225]; exact upH_k z_1161 z_1207 (by intro z; cases z)
  have z_1214 : h_225 a_37 = some (aA 0 5 (fun _ => 0)) := by rw [e_225]; exact upH_k z_1163 z_1207 (by intro z; cases z)
  have z_1215 : h_225 a_45 = some (aA 0 20 (fun _ => 0)) := by rw [e_225]; exact upH_k z_1165 z_1207 (by intro z; cases z)
  have z_1216 : h_225 a_53 = some (aA 1 20 (fun _ => 0)) := by rw [e_225]; exact upH_k z_1167 z_1207 (by intro z; cases z)
  have z_1217 : h_225 a_62 = some (aA 0 540 (fun _ => 0)) := by rw [e_225]; exact upH_k z_1168 z_1207 (by intro z; cases z)
  have z_1218 : h_225 a_71 = some (aA 0 540 (fun _ => 0)) := by rw [e_225]; exact upH_k z_1170 z_1207 (by intro z; cases z)
  have z_1219 : h_225 a_80 = some (aA 0 540 (fun _ => 0)) := by rw [e_225]; exact upH_k z_1172 z_1207 (by intro z; cases z)
  have z_1220 : h_225 a_92 = some (aA 0 5 (fun _ => 0)) := by rw [e_225]; exact upH_k z_1174 z_1207 (by intro z; cases z)
  have z_1221 : h_225 a_100 = some (aA 0 20 (fun _ => 0)) := by rw [e_225]; exact upH_k z_1176 z_1207 (by intro z; cases z)
  have z_1222 : h_225 a_107 = some (aA 0 5 (fun _ => 0)) := by rw [e_225]; exact upH_k z_1178 z_1207 (by intro z; cases z)
  have z_1223 : h_225 a_115 = some (aA 1 20 (fun _ => 0)) := by rw [e_225]; exact upH_k z_1180 z_1207 (by intro z; cases z)
  have z_1224 : h_225 a_123 = some (aA 0 60 (fun _ => 0)) := by rw [e_225]; exact upH_k z_1181 z_1207 (by intro z; cases z)
  have z_1225 : h_225 a_131 = some (aA 0 60 (fun _ => 0)) := by rw [e_225]; exact upH_k z_1183 z_1207 (by intro z; cases z)
  have z_1226 : h_225 a_139 = some (aA 0 60 (fun _ => 0)) := by rw [e_225]; exact upH_k z_1185 z_1207 (by intro z; cases z)
  have z_1227 : h_225 a_147 = some (aA 0 100 (fun _ => 0)) := by rw [e_225]; exact upH_k z_1187 z_1207 (by intro z; cases z)
  have z_1228 : h_225 a_154 = some (aA 0 5 (fun _ => 0)) := by rw [e_225]; exact upH_k z_1189 z_1207 (by intro z; cases z)
  have z_1229 : h_225 a_163 = some (aA 0 240 (fun _ => 0)) := by rw [e_225]; exact upH_k z_1191 z_1207 (by intro z; cases z)
  have z_1230 : h_225 a_171 = some (aA 0 40 (fun _ => 0)) := by rw [e_225]; exact upH_k z_1193 z_1207 (by intro z; cases z)
  have z_1231 : h_225 a_178 = some (aA 0 5 (fun _ => 0)) := by rw [e_225]; exact upH_k z_1195 z_1207 (by intro z; cases z)
  have z_1232 : h_225 a_185 = some (aA 0 5 (fun _ => 0)) := by rw [e_225]; exact upH_k z_1197 z_1207 (by intro z; cases z)
  have z_1233 : h_225 a_192 = some (aA 0 4 (fun _ => 0)) := by rw [e_225]; exact upH_k z_1199 z_1207 (by intro z; cases z)
  have z_1234 : h_225 a_199 = some (aA 0 5 (fun _ => 0)) := by rw [e_225]; exact upH_k z_1201 z_1207 (by intro z; cases z)
  have z_1235 : h_225 a_206 = some (aA 0 5 (fun _ => 0)) := by rw [e_225]; exact upH_k z_1203 z_1207 (by intro z; cases z)
  have z_1236 : h_225 a_214 = some (aA 0 30 (fun _ => 0)) := by rw [e_225]; exact upH_k z_1205 z_1207 (by intro z; cases z)
  have z_1237 : h_225 a_223 = some (aA 0 1000 (fun _ => 0)) := by rw [e_225]; exact upH_k z_1208 z_1207 (by intro z; cases z)
  have z_1238 : h_225 o = some (aO 1 [IV 0, .ref a_7, .ref a_15, .ref a_23, .ref a_30, .ref a_37, IV 0, .ref a_45, .ref a_53, IV 0, .ref a_62, .ref a_71, .ref a_80, IV 0, IV 0, IV 0, IV 0, IV 0, .ref a_92, IV 0, .ref a_100, .ref a_107, .ref a_115, .ref a_123, .ref a_131, .ref a_139, IV 0, .ref a_147, .ref a_154, .ref a_163, .ref a_171, .ref a_178, .ref a_185, .ref a_192, .ref a_199, .ref a_206, .ref a_214, IV 0, IV 0, .ref a_223, .null, .null, IV 0, IV 0]) := by rw [e_225]; exact upH_self _ _ _
  have nd_1239 : [a_223, a_214, a_206, a_199, a_192, a_185, a_178, a_171, a_163, a_154, a_147, a_139, a_131, a_123, a_115, a_107, a_100, a_92, a_80, a_71, a_62, a_53, a_45, a_37, a_30, a_23, a_15, a_7].Nodup ∧ ∀ b ∈ [a_223, a_214, a_206, a_199, a_192, a_185, a_178, a_171, a_163, a_154, a_147, a_139, a_131, a_123, a_115, a_107, a_100, a_92, a_80, a_71, a_62, a_53, a_45, a_37, a_30, a_23, a_15, a_7], h_225 b ≠ none := nd_put nd_1209 e_225
  refine j_aload_n (pc := 228) dX2_init_228 rfl ?_
  refine j_sipush (pc := 229) (a := 1000) dX2_init_229 (by decide) ?_
  refine j_room (cl' := 1 + 1) (sl' := 1000 + 1000) (by omega) (by omega) ?_
  refine j1_newa (i := 1000) (N := 1000) (atype := .int) hal (Or.inl ⟨rfl, rfl⟩) q141 (by omega) (by omega) (by omega) dX2_init_232 (fun a_232 h_232 n_232 e_232 => ?_)
  have z_1240 : h_232 a_7 = some (aA 1 72 (fun _ => 0)) := by rw [e_232]; exact upH_old z_1210 n_232
  have z_1241 : h_232 a_15 = some (aA 0 36 (fun _ => 0)) := by rw [e_232]; exact upH_old z_1211 n_232
  have ne_1242 : a_15 ≠ a_232 := fresh_ne z_1211 n_232
  have z_1243 : h_232 a_23 = some (aA 0 36 (fun _ => 0)) := by rw [e_232]; exact upH_old z_1212 n_232
  have ne_1244 : a_23 ≠ a_232 := fresh_ne z_1212 n_232
  have z_1245 : h_232 a_30 = some (aA 0 5 (fun _ => 0)) := by rw [e_232]; exact upH_old z_1213 n_232
  have ne_1246 : a_30 ≠ a_232 := fresh_ne z_1213 n_232
  have z_1247 : h_232 a_37 = some (aA 0 5 (fun _ => 0)) := by rw [e_232]; exact upH_old z_1214 n_232
  have ne_1248 : a_37 ≠ a_232 := fresh_ne z_1214 n_232
  have z_1249 : h_232 a_45 = some (aA 0 20 (fun _ => 0)) := by rw [e_232]; exact upH_old z_1215 n_232
  have ne_1250 : a_45 ≠ a_232 := fresh_ne z_1215 n_232
  have z_1251 : h_232 a_53 = some (aA 1 20 (fun _ => 0)) := by rw [e_232]; exact upH_old z_1216 n_232
  have z_1252 : h_232 a_62 = some (aA 0 540 (fun _ => 0)) := by rw [e_232]; exact upH_old z_1217 n_232
  have ne_1253 : a_62 ≠ a_232 := fresh_ne z_1217 n_232
  have z_1254 : h_232 a_71 = some (aA 0 540 (fun _ => 0)) := by rw [e_232]; exact upH_old z_1218 n_232
  have ne_1255 : a_71 ≠ a_232 := fresh_ne z_1218 n_232
  have z_1256 : h_232 a_80 = some (aA 0 540 (fun _ => 0)) := by rw [e_232]; exact upH_old z_1219 n_232
  have ne_1257 : a_80 ≠ a_232 := fresh_ne z_1219 n_232
  have z_1258 : h_232 a_92 = some (aA 0 5 (fun _ => 0)) := by rw [e_232]; exact upH_old z_1220 n_232
  have ne_1259 : a_92 ≠ a_232 := fresh_ne z_1220 n_232
  have z_1260 : h_232 a_100 = some (aA 0 20 (fun _ => 0)) := by rw [e_232]; exact upH_old z_1221 n_232
  have ne_1261 : a_100 ≠ a_232 := fresh_ne z_1221 n_232
  have z_1262 : h_232 a_107 = some (aA 0 5 (fun _ => 0)) := by rw [e_232]; exact upH_old z_1222 n_232
  have ne_1263 : a_107 ≠ a_232 := fresh_ne z_1222 n_232
  have z_1264 : h_232 a_115 = some (aA 1 20 (fun _ => 0)) := by rw [e_232]; exact upH_old z_1223 n_232
  have z_1265 : h_232 a_123 = some (aA 0 60 (fun _ => 0)) := by rw [e_232]; exact upH_old z_1224 n_232
  have ne_1266 : a_123 ≠ a_232 := fresh_ne z_1224 n_232
  have z_1267 : h_232 a_131 = some (aA 0 60 (fun _ => 0)) := by rw [e_232]; exact upH_old z_1225 n_232
  have ne_1268 : a_131 ≠ a_232 := fresh_ne z_1225 n_232
  have z_1269 : h_232 a_139 = some (aA 0 60 (fun _ => 0)) := by rw [e_232]; exact upH_old z_1226 n_232
  have ne_1270 : a_139 ≠ a_232 := fresh_ne z_1226 n_232
  have z_1271 : h_232 a_147 = some (aA 0 100 (fun _ => 0)) := by rw [e_232]; exact upH_old z_1227 n_232
  have ne_1272 : a_147 ≠ a_232 := fresh_ne z_1227 n_232
  have z_1273 : h_232 a_154 = some (aA 0 5 (fun _ => 0)) := by rw [e_232]; exact upH_old z_1228 n_232
  have ne_1274 : a_154 ≠ a_232 := fresh_ne z_1228 n_232
  have z_1275 : h_232 a_163 = some (aA 0 240 (fun _ => 0)) := by rw [e_232]; exact upH_old z_1229 n_232
  have ne_1276 : a_163 ≠ a_232 := fresh_ne z_1229 n_232
  have z_1277 : h_232 a_171 = some (aA 0 40 (fun _ => 0)) := by rw [e_232]; exact upH_old z_1230 n_232
  have ne_1278 : a_171 ≠ a_232 := fresh_ne z_1230 n_232
  have z_1279 : h_232 a_178 = some (aA 0 5 (fun _ => 0)) := by rw [e_232]; exact upH_old z_1231 n_232
  have ne_1280 : a_178 ≠ a_232 := fresh_ne z_1231 n_232
  have z_1281 : h_232 a_185 = some (aA 0 5 (fun _ => 0)) := by rw [e_232]; exact upH_old z_1232 n_232
  have ne_1282 : a_185 ≠ a_232 := fresh_ne z_1232 n_232
  have z_1283 : h_232 a_192 = some (aA 0 4 (fun _ => 0)) := by rw [e_232]; exact upH_old z_1233 n_232
  have ne_1284 : a_192 ≠ a_232 := fresh_ne z_1233 n_232
  have z_1285 : h_232 a_199 = some (aA 0 5 (fun _ => 0)) := by rw [e_232]; exact upH_old z_1234 n_232
  have ne_1286 : a_199 ≠ a_232 := fresh_ne z_1234 n_232
  have z_1287 : h_232 a_206 = some (aA 0 5 (fun _ => 0)) := by rw [e_232]; exact upH_old z_1235 n_232
  have ne_1288 : a_206 ≠ a_232 := fresh_ne z_1235 n_232
  have z_1289 : h_232 a_214 = some (aA 0 30 (fun _ => 0)) := by rw [e_232]; exact upH_old z_1236 n_232
  have ne_1290 : a_214 ≠ a_232 := fresh_ne z_1236 n_232
  have z_1291 : h_232 a_223 = some (aA 0 1000 (fun _ => 0)) := by rw [e_232]; exact upH_old z_1237 n_232
  have ne_1292 : a_223 ≠ a_232 := fresh_ne z_1237 n_232
  have z_1293 : h_232 o = some (aO 1 [IV 0, .ref a_7, .ref a_15, .ref a_23, .ref a_30, .ref a_37, IV 0, .ref a_45, .ref a_53, IV 0, .ref a_62, .ref a_71, .ref a_80, IV 0, IV 0, IV 0, IV 0, IV 0, .ref a_92, IV 0, .ref a_100, .ref a_107, .ref a_115, .ref a_123, .ref a_131, .ref a_139, IV 0, .ref a_147, .ref a_154, .ref a_163, .ref a_171, .ref a_178, .ref a_185, .ref a_192, .ref a_199, .ref a_206, .ref a_214, IV 0, IV 0, .ref a_223, .null, .null, IV 0, IV 0]) := by rw [e_232]; exact upH_old z_1238 n_232
  have z_1294 : h_232 a_232 = some (aA 0 1000 (fun _ => 0)) := by rw [e_232]; exact upH_self _ _ _
  have nd_1295 : [a_232, a_223, a_214, a_206, a_199, a_192, a_185, a_178, a_171, a_163, a_154, a_147, a_139, a_131, a_123, a_115, a_107, a_100, a_92, a_80, a_71, a_62, a_53, a_45, a_37, a_30, a_23, a_15, a_7].Nodup ∧ ∀ b ∈ [a_232, a_223, a_214, a_206, a_199, a_192, a_185, a_178, a_171, a_163, a_154, a_147, a_139, a_131, a_123, a_115, a_107, a_100, a_92, a_80, a_71, a_62, a_53, a_45, a_37, a_30, a_23, a_15, a_7], h_232 b ≠ none := nd_new nd_1239 n_232 e_232
  have no_a_232 : a_232 ≠ o := Ne.symm (fresh_ne z_1238 n_232)
  refine j1_putF rfl fp_X2_99_X2 z_1293 (Nat.le_of_ble_eq_true rfl) rfl rfl dX2_init_234 (fun h_234 e_234 => ?_)
  have z_1296 : h_234 a_7 = some (aA 1 72 (fun _ => 0)) := by rw [e_234]; exact upH_k z_1240 z_1293 (by intro z; cases z)
  have z_1297 : h_234 a_15 = some (aA 0 36 (fun _ => 0)) := by rw [e_234]; exact upH_k z_1241 z_1293 (by intro z; cases z)
  have z_1298 : h_234 a_23 = some (aA 0 36 (fun _ => 0)) := by rw [e_234]; exact upH_k z_1243 z_1293 (by intro z; cases z)
  have z_1299 : h_234 a_30 = some (aA 0 5 (fun _ => 0)) := by rw [e_234]; exact upH_k z_1245 z_1293 (by intro z; cases z)
  have z_1300 : h_234 a_37 = some (aA 0 5 (fun _ => 0)) := by rw [e_234]; exact upH_k z_1247 z_1293 (by intro z; cases z)
  have z_1301 : h_234 a_45 = some (aA 0 20 (fun _ => 0)) := by rw [e_234]; exact upH_k z_1249 z_1293 (by intro z; cases z)
  have z_1302 : h_234 a_53 = some (aA 1 20 (fun _ => 0)) := by rw [e_234]; exact upH_k z_1251 z_1293 (by intro z; cases z)
  have z_1303 : h_234 a_62 = some (aA 0 540 (fun _ => 0)) := by rw [e_234]; exact upH_k z_1252 z_1293 (by intro z; cases z)
  have z_1304 : h_234 a_71 = some (aA 0 540 (fun _ => 0)) := by rw [e_234]; exact upH_k z_1254 z_1293 (by intro z; cases z)
  have z_1305 : h_234 a_80 = some (aA 0 540 (fun _ => 0)) := by rw [e_234]; exact upH_k z_1256 z_1293 (by intro z; cases z)
  have z_1306 : h_234 a_92 = some (aA 0 5 (fun _ => 0)) := by rw [e_234]; exact upH_k z_1258 z_1293 (by intro z; cases z)
  have z_1307 : h_234 a_100 = some (aA 0 20 (fun _ => 0)) := by rw [e_234]; exact upH_k z_1260 z_1293 (by intro z; cases z)
  have z_1308 : h_234 a_107 = some (aA 0 5 (fun _ => 0)) := by rw [e_234]; exact upH_k z_1262 z_1293 (by intro z; cases z)
  have z_1309 : h_234 a_115 = some (aA 1 20 (fun _ => 0)) := by rw [e_234]; exact upH_k z_1264 z_1293 (by intro z; cases z)
  have z_1310 : h_234 a_123 = some (aA 0 60 (fun _ => 0)) := by rw [e_234]; exact upH_k z_1265 z_1293 (by intro z; cases z)
  have z_1311 : h_234 a_131 = some (aA 0 60 (fun _ => 0)) := by rw [e_234]; exact upH_k z_1267 z_1293 (by intro z; cases z)
  have z_1312 : h_234 a_139 = some (aA 0 60 (fun _ => 0)) := by rw [e_234]; exact upH_k z_1269 z_1293 (by intro z; cases z)
  have z_1313 : h_234 a_147 = some (aA 0 100 (fun _ => 0)) := by rw [e_234]; exact upH_k z_1271 z_1293 (by intro z; cases z)
  have z_1314 : h_234 a_154 = some (aA 0 5 (fun _ => 0)) := by rw [e_234]; exact upH_k z_1273 z_1293 (by intro z; cases z)
  have z_1315 : h_234 a_163 = some (aA 0 240 (fun _ => 0)) := by rw [e_234]; exact upH_k z_1275 z_1293 (by intro z; cases z)
  have z_1316 : h_234 a_171 = some (aA 0 40 (fun _ => 0)) := by rw [e_234]; exact upH_k z_1277 z_1293 (by intro z; cases z)
  have z_1317 : h_234 a_178 = some (aA 0 5 (fun _ => 0)) := by rw [e_234]; exact upH_k z_1279 z_1293 (by intro z; cases z)
  have z_1318 : h_234 a_185 = some (aA 0 5 (fun _ => 0)) := by rw [e_234]; exact upH_k z_1281 z_1293 (by intro z; cases z)
  have z_1319 : h_234 a_192 = some (aA 0 4 (fun _ => 0)) := by rw [e_234]; exact upH_k z_1283 z_1293 (by intro z; cases z)
  have z_1320 : h_234 a_199 = some (aA 0 5 (fun _ => 0)) := by rw [e_234]; exact upH_k z_1285 z_1293 (by intro z; cases z)
  have z_1321 : h_234 a_206 = some (aA 0 5 (fun _ => 0)) := by rw [e_234]; exact upH_k z_1287 z_1293 (by intro z; cases z)
  have z_1322 : h_234 a_214 = some (aA 0 30 (fun _ => 0)) := by rw [e_234]; exact upH_k z_1289 z_1293 (by intro z; cases z)
  have z_1323 : h_234 a_223 = some (aA 0 1000 (fun _ => 0)) := by rw [e_234]; exact upH_k z_1291 z_1293 (by intro z; cases z)
  have z_1324 : h_234 a_232 = some (aA 0 1000 (fun _ => 0)) := by rw [e_234]; exact upH_k z_1294 z_1293 (by intro z; cases z)
  have z_1325 : h_234 o = some (aO 1 [IV 0, .ref a_7, .ref a_15, .ref a_23, .ref a_30, .ref a_37, IV 0, .ref a_45, .ref a_53, IV 0, .ref a_62, .ref a_71, .ref a_80, IV 0, IV 0, IV 0, IV 0, IV 0, .ref a_92, IV 0, .ref a_100, .ref a_107, .ref a_115, .ref a_123, .ref a_131, .ref a_139, IV 0, .ref a_147, .ref a_154, .ref a_163, .ref a_171, .ref a_178, .ref a_185, .ref a_192, .ref a_199, .ref a_206, .ref a_214, IV 0, IV 0, .ref a_223, .ref a_232, .null, IV 0, IV 0]) := by rw [e_234]; exact upH_self _ _ _
  have nd_1326 : [a_232, a_223, a_214, a_206, a_199, a_192, a_185, a_178, a_171, a_163, a_154, a_147, a_139, a_131, a_123, a_115, a_107, a_100, a_92, a_80, a_71, a_62, a_53, a_45, a_37, a_30, a_23, a_15, a_7].Nodup ∧ ∀ b ∈ [a_232, a_223, a_214, a_206, a_199, a_192, a_185, a_178, a_171, a_163, a_154, a_147, a_139, a_131, a_123, a_115, a_107, a_100, a_92, a_80, a_71, a_62, a_53, a_45, a_37, a_30, a_23, a_15, a_7], h_234 b ≠ none := nd_put nd_1295 e_234
  refine j_aload_n (pc := 237) dX2_init_237 rfl ?_
  refine j_sipush (pc := 238) (a := 1000) dX2_init_238 (by decide) ?_
  refine j_room (cl' := 0 + 1) (sl' := 0 + 1000) (by omega) (by omega) ?_
  refine j1_newa (i := 1000) (N := 1000) (atype := .int) hal (Or.inl ⟨rfl, rfl⟩) q141 (by omega) (by omega) (by omega) dX2_init_241 (fun a_241 h_241 n_241 e_241 => ?_)
  have z_1327 : h_241 a_7 = some (aA 1 72 (fun _ => 0)) := by rw [e_241]; exact upH_old z_1296 n_241
  have z_1328 : h_241 a_15 = some (aA 0 36 (fun _ => 0)) := by rw [e_241]; exact upH_old z_1297 n_241
  have ne_1329 : a_15 ≠ a_241 := fresh_ne z_1297 n_241
  have z_1330 : h_241 a_23 = some (aA 0 36 (fun _ => 0)) := by rw [e_241]; exact upH_old z_1298 n_241
  have ne_1331 : a_23 ≠ a_241 := fresh_ne z_1298 n_241
  have z_1332 : h_241 a_30 = some (aA 0 5 (fun _ => 0)) := by rw [e_241]; exact upH_old z_1299 n_241
  have ne_1333 : a_30 ≠ a_241 := fresh_ne z_1299 n_241
  have z_1334 : h_241 a_37 = some (aA 0 5 (fun _ => 0)) := by rw [e_241]; exact upH_old z_1300 n_241
  have ne_1335 : a_37 ≠ a_241 := fresh_ne z_1300 n_241
  have z_1336 : h_241 a_45 = some (aA 0 20 (fun _ => 0)) := by rw [e_241]; exact upH_old z_1301 n_241
  have ne_1337 : a_45 ≠ a_241 := fresh_ne z_1301 n_241
  have z_1338 : h_241 a_53 = some (aA 1 20 (fun _ => 0)) := by rw [e_241]; exact upH_old z_1302 n_241
  have z_1339 : h_241 a_62 = some (aA 0 540 (fun _ => 0)) := by rw [e_241]; exact upH_old z_1303 n_241
  have ne_1340 : a_62 ≠ a_241 := fresh_ne z_1303 n_241
  have z_1341 : h_241 a_71 = some (aA 0 540 (fun _ => 0)) := by rw [e_241]; exact upH_old z_1304 n_241
  have ne_1342 : a_71 ≠ a_241 := fresh_ne z_1304 n_241
  have z_1343 : h_241 a_80 = some (aA 0 540 (fun _ => 0)) := by rw [e_241]; exact upH_old z_1305 n_241
  have ne_1344 : a_80 ≠ a_241 := fresh_ne z_1305 n_241
  have z_1345 : h_241 a_92 = some (aA 0 5 (fun _ => 0)) := by rw [e_241]; exact upH_old z_1306 n_241
  have ne_1346 : a_92 ≠ a_241 := fresh_ne z_1306 n_241
  have z_1347 : h_241 a_100 = some (aA 0 20 (fun _ => 0)) := by rw [e_241]; exact upH_old z_1307 n_241
  have ne_1348 : a_100 ≠ a_241 := fresh_ne z_1307 n_241
  have z_1349 : h_241 a_107 = some (aA 0 5 (fun _ => 0)) := by rw [e_241]; exact upH_old z_1308 n_241
  have ne_1350 : a_107 ≠ a_241 := fresh_ne z_1308 n_241
  have z_1351 : h_241 a_115 = some (aA 1 20 (fun _ => 0)) := by rw [e_241]; exact upH_old z_1309 n_241
  have z_1352 : h_241 a_123 = some (aA 0 60 (fun _ => 0)) := by rw [e_241]; exact upH_old z_1310 n_241
  have ne_1353 : a_123 ≠ a_241 := fresh_ne z_1310 n_241
  have z_1354 : h_241 a_131 = some (aA 0 60 (fun _ => 0)) := by rw [e_241]; exact upH_old z_1311 n_241
  have ne_1355 : a_131 ≠ a_241 := fresh_ne z_1311 n_241
  have z_1356 : h_241 a_139 = some (aA 0 60 (fun _ => 0)) := by rw [e_241]; exact upH_old z_1312 n_241
  have ne_1357 : a_139 ≠ a_241 := fresh_ne z_1312 n_241
  have z_1358 : h_241 a_147 = some (aA 0 100 (fun _ => 0)) := by rw [e_241]; exact upH_old z_1313 n_241
  have ne_1359 : a_147 ≠ a_241 := fresh_ne z_1313 n_241
  have z_1360 : h_241 a_154 = some (aA 0 5 (fun _ => 0)) := by rw [e_241]; exact upH_old z_1314 n_241
  have ne_1361 : a_154 ≠ a_241 := fresh_ne z_1314 n_241
  have z_1362 : h_241 a_163 = some (aA 0 240 (fun _ => 0)) := by rw [e_241]; exact upH_old z_1315 n_241
  have ne_1363 : a_163 ≠ a_241 := fresh_ne z_1315 n_241
  have z_1364 : h_241 a_171 = some (aA 0 40 (fun _ => 0)) := by rw [e_241]; exact upH_old z_1316 n_241
  have ne_1365 : a_171 ≠ a_241 := fresh_ne z_1316 n_241
  have z_1366 : h_241 a_178 = some (aA 0 5 (fun _ => 0)) := by rw [e_241]; exact upH_old z_1317 n_241
  have ne_1367 : a_178 ≠ a_241 := fresh_ne z_1317 n_241
  have z_1368 : h_241 a_185 = some (aA 0 5 (fun _ => 0)) := by rw [e_241]; exact upH_old z_1318 n_241
  have ne_1369 : a_185 ≠ a_241 := fresh_ne z_1318 n_241
  have z_1370 : h_241 a_192 = some (aA 0 4 (fun _ => 0)) := by rw [e_241]; exact upH_old z_1319 n_241
  have ne_1371 : a_192 ≠ a_241 := fresh_ne z_1319 n_241
  have z_1372 : h_241 a_199 = some (aA 0 5 (fun _ => 0)) := by rw [e_241]; exact upH_old z_1320 n_241
  have ne_1373 : a_199 ≠ a_241 := fresh_ne z_1320 n_241
  have z_1374 : h_241 a_206 = some (aA 0 5 (fun _ => 0)) := by rw [e_241]; exact upH_old z_1321 n_241
  have ne_1375 : a_206 ≠ a_241 := fresh_ne z_1321 n_241
  have z_1376 : h_241 a_214 = some (aA 0 30 (fun _ => 0)) := by rw [e_241]; exact upH_old z_1322 n_241
  have ne_1377 : a_214 ≠ a_241 := fresh_ne z_1322 n_241
  have z_1378 : h_241 a_223 = some (aA 0 1000 (fun _ => 0)) := by rw [e_241]; exact upH_old z_1323 n_241
  have ne_1379 : a_223 ≠ a_241 := fresh_ne z_1323 n_241
  have z_1380 : h_241 a_232 = some (aA 0 1000 (fun _ => 0)) := by rw [e_241]; exact upH_old z_1324 n_241
  have ne_1381 : a_232 ≠ a_241 := fresh_ne z_1324 n_241
  have z_1382 : h_241 o = some (aO 1 [IV 0, .ref a_7, .ref a_15, .ref a_23, .ref a_30, .ref a_37, IV 0, .ref a_45, .ref a_53, IV 0, .ref a_62, .ref a_71, .ref a_80, IV 0, IV 0, IV 0, IV 0, IV 0, .ref a_92, IV 0, .ref a_100, .ref a_107, .ref a_115, .ref a_123, .ref a_131, .ref a_139, IV 0, .ref a_147, .ref a_154, .ref a_163, .ref a_171, .ref a_178, .ref a_185, .ref a_192, .ref a_199, .ref a_206, .ref a_214, IV 0, IV 0, .ref a_223, .ref a_232, .null, IV 0, IV 0]) := by rw [e_241]; exact upH_old z_1325 n_241
  have z_1383 : h_241 a_241 = some (aA 0 1000 (fun _ => 0)) := by rw [e_241]; exact upH_self _ _ _
  have nd_1384 : [a_241, a_232, a_223, a_214, a_206, a_199, a_192, a_185, a_178, a_171, a_163, a_154, a_147, a_139, a_131, a_123, a_115, a_107, a_100, a_92, a_80, a_71, a_62, a_53, a_45, a_37, a_30, a_23, a_15, a_7].Nodup ∧ ∀ b ∈ [a_241, a_232, a_223, a_214, a_206, a_199, a_192, a_185, a_178, a_171, a_163, a_154, a_147, a_139, a_131, a_123, a_115, a_107, a_100, a_92, a_80, a_71, a_62, a_53, a_45, a_37, a_30, a_23, a_15, a_7], h_241 b ≠ none := nd_new nd_1326 n_241 e_241
  have no_a_241 : a_241 ≠ o := Ne.symm (fresh_ne z_1325 n_241)
  refine j1_putF rfl fp_X2_102_X2 z_1382 (Nat.le_of_ble_eq_true rfl) rfl rfl dX2_init_243 (fun h_243 e_243 => ?_)
  have z_1385 : h_243 a_7 = some (aA 1 72 (fun _ => 0)) := by rw [e_243]; exact upH_k z_1327 z_1382 (by intro z; cases z)
  have z_1386 : h_243 a_15 = some (aA 0 36 (fun _ => 0)) := by rw [e_243]; exact upH_k z_1328 z_1382 (by intro z; cases z)
  have z_1387 : h_243 a_23 = some (aA 0 36 (fun _ => 0)) := by rw [e_243]; exact upH_k z_1330 z_1382 (by intro z; cases z)
  have z_1388 : h_243 a_30 = some (aA 0 5 (fun _ => 0)) := by rw [e_243]; exact upH_k z_1332 z_1382 (by intro z; cases z)
  have z_1389 : h_243 a_37 = some (aA 0 5 (fun _ => 0)) := by rw [e_243]; exact upH_k z_1334 z_1382 (by intro z; cases z)
  have z_1390 : h_243 a_45 = some (aA 0 20 (fun _ => 0)) := by rw [e_243]; exact upH_k z_1336 z_1382 (by intro z; cases z)
  have z_1391 : h_243 a_53 = some (aA 1 20 (fun _ => 0)) := by rw [e_243]; exact upH_k z_1338 z_1382 (by intro z; cases z)
  have z_1392 : h_243 a_62 = some (aA 0 540 (fun _ => 0)) := by rw [e_243]; exact upH_k z_1339 z_1382 (by intro z; cases z)
  have z_1393 : h_243 a_71 = some (aA 0 540 (fun _ => 0)) := by rw [e_243]; exact upH_k z_1341 z_1382 (by intro z; cases z)
  have z_1394 : h_243 a_80 = some (aA 0 540 (fun _ => 0)) := by rw [e_243]; exact upH_k z_1343 z_1382 (by intro z; cases z)
  have z_1395 : h_243 a_92 = some (aA 0 5 (fun _ => 0)) := by rw [e_243]; exact upH_k z_1345 z_1382 (by intro z; cases z)
  have z_1396 : h_243 a_100 = some (aA 0 20 (fun _ => 0)) := by rw [e_243]; exact upH_k z_1347 z_1382 (by intro z; cases z)
  have z_1397 : h_243 a_107 = some (aA 0 5 (fun _ => 0)) := by rw [e_243]; exact upH_k z_1349 z_1382 (by intro z; cases z)
  have z_1398 : h_243 a_115 = some (aA 1 20 (fun _ => 0)) := by rw [e_243]; exact upH_k z_1351 z_1382 (by intro z; cases z)
  have z_1399 : h_243 a_123 = some (aA 0 60 (fun _ => 0)) := by rw [e_243]; exact upH_k z_1352 z_1382 (by intro z; cases z)
  have z_1400 : h_243 a_131 = some (aA 0 60 (fun _ => 0)) := by rw [e_243]; exact upH_k z_1354 z_1382 (by intro z; cases z)
  have z_1401 : h_243 a_139 = some (aA 0 60 (fun _ => 0)) := by rw [e_243]; exact upH_k z_1356 z_1382 (by intro z; cases z)
  have z_1402 : h_243 a_147 = some (aA 0 100 (fun _ => 0)) := by rw [e_243]; exact upH_k z_1358 z_1382 (by intro z; cases z)
  have z_1403 : h_243 a_154 = some (aA 0 5 (fun _ => 0)) := by rw [e_243]; exact upH_k z_1360 z_1382 (by intro z; cases z)
  have z_1404 : h_243 a_163 = some (aA 0 240 (fun _ => 0)) := by rw [e_243]; exact upH_k z_1362 z_1382 (by intro z; cases z)
  have z_1405 : h_243 a_171 = some (aA 0 40 (fun _ => 0)) := by rw [e_243]; exact upH_k z_1364 z_1382 (by intro z; cases z)
  have z_1406 : h_243 a_178 = some (aA 0 5 (fun _ => 0)) := by rw [e_243]; exact upH_k z_1366 z_1382 (by intro z; cases z)
  have z_1407 : h_243 a_185 = some (aA 0 5 (fun _ => 0)) := by rw [e_243]; exact upH_k z_1368 z_1382 (by intro z; cases z)
  have z_1408 : h_243 a_192 = some (aA 0 4 (fun _ => 0)) := by rw [e_243]; exact upH_k z_1370 z_1382 (by intro z; cases z)
  have z_1409 : h_243 a_199 = some (aA 0 5 (fun _ => 0)) := by rw [e_243]; exact upH_k z_1372 z_1382 (by intro z; cases z)
  have z_1410 : h_243 a_206 = some (aA 0 5 (fun _ => 0)) := by rw [e_243]; exact upH_k z_1374 z_1382 (by intro z; cases z)
  have z_1411 : h_243 a_214 = some (aA 0 30 (fun _ => 0)) := by rw [e_243]; exact upH_k z_1376 z_1382 (by intro z; cases z)
  have z_1412 : h_243 a_223 = some (aA 0 1000 (fun _ => 0)) := by rw [e_243]; exact upH_k z_1378 z_1382 (by intro z; cases z)
  have z_1413 : h_243 a_232 = some (aA 0 1000 (fun _ => 0)) := by rw [e_243]; exact upH_k z_1380 z_1382 (by intro z; cases z)
  have z_1414 : h_243 a_241 = some (aA 0 1000 (fun _ => 0)) := by rw [e_243]; exact upH_k z_1383 z_1382 (by intro z; cases z)
  have z_1415 : h_243 o = some (aO 1 [IV 0, .ref a_7, .ref a_15, .ref a_23, .ref a_30, .ref a_37, IV 0, .ref a_45, .ref a_53, IV 0, .ref a_62, .ref a_71, .ref a_80, IV 0, IV 0, IV 0, IV 0, IV 0, .ref a_92, IV 0, .ref a_100, .ref a_107, .ref a_115, .ref a_123, .ref a_131, .ref a_139, IV 0, .ref a_147, .ref a_154, .ref a_163, .ref a_171, .ref a_178, .ref a_185, .ref a_192, .ref a_199, .ref a_206, .ref a_214, IV 0, IV 0, .ref a_223, .ref a_232, .ref a_241, IV 0, IV 0]) := by rw [e_243]; exact upH_self _ _ _
  have nd_1416 : [a_241, a_232, a_223, a_214, a_206, a_199, a_192, a_185, a_178, a_171, a_163, a_154, a_147, a_139, a_131, a_123, a_115, a_107, a_100, a_92, a_80, a_71, a_62, a_53, a_45, a_37, a_30, a_23, a_15, a_7].Nodup ∧ ∀ b ∈ [a_241, a_232, a_223, a_214, a_206, a_199, a_192, a_185, a_178, a_171, a_163, a_154, a_147, a_139, a_131, a_123, a_115, a_107, a_100, a_92, a_80, a_71, a_62, a_53, a_45, a_37, a_30, a_23, a_15, a_7], h_243 b ≠ none := nd_put nd_1384 e_243
  refine j_aload_n (pc := 246) dX2_init_246 rfl ?_
  have hlen : [a_241, a_232, a_223, a_214, a_206, a_199, a_192, a_185, a_178, a_171, a_163, a_154, a_147, a_139, a_131, a_123, a_115, a_107, a_100, a_92, a_80, a_71, a_62, a_53, a_45, a_37, a_30, a_23, a_15, a_7].length = 30 := rfl
  have hao : ∀ k : Nat, k < 44 → mN k ≠ 0 → adL [a_241, a_232, a_223, a_214, a_206, a_199, a_192, a_185, a_178, a_171, a_163, a_154, a_147, a_139, a_131, a_123, a_115, a_107, a_100, a_92, a_80, a_71, a_62, a_53, a_45, a_37, a_30, a_23, a_15, a_7] k ≠ o := fun k hk nk e => by
    have hm := adL_mem hlen hk nk
    rw [e] at hm
    simp only [List.mem_cons, List.not_mem_nil, or_false] at hm
    rcases hm with z | z | z | z | z | z | z | z | z | z | z | z | z | z | z | z | z | z | z | z | z | z | z | z | z | z | z | z | z | z <;> first | exact no_a_241 z.symm | exact no_a_232 z.symm | exact no_a_223 z.symm | exact no_a_214 z.symm | exact no_a_206 z.symm | exact no_a_199 z.symm | exact no_a_192 z.symm | exact no_a_185 z.symm | exact no_a_178 z.symm | exact no_a_171 z.symm | exact no_a_163 z.symm | exact no_a_154 z.symm | exact no_a_147 z.symm | exact no_a_139 z.symm | exact no_a_131 z.symm | exact no_a_123 z.symm | exact no_a_115 z.symm | exact no_a_107 z.symm | exact no_a_100 z.symm | exact no_a_92 z.symm | exact no_a_80 z.symm | exact no_a_71 z.symm | exact no_a_62 z.symm | exact no_a_53 z.symm | exact no_a_45 z.symm | exact no_a_37 z.symm | exact no_a_30 z.symm | exact no_a_23 z.symm | exact no_a_15 z.symm | exact no_a_7 z.symm
  have hof : h_243 o = some (aO 1 (mfs (adL [a_241, a_232, a_223, a_214, a_206, a_199, a_192, a_185, a_178, a_171, a_163, a_154, a_147, a_139, a_131, a_123, a_115, a_107, a_100, a_92, a_80, a_71, a_62, a_53, a_45, a_37, a_30, a_23, a_15, a_7]) s00.1)) := z_1415
  have har : ∀ k : Nat, k < 44 → mN k ≠ 0 → h_243 (adL [a_241, a_232, a_223, a_214, a_206, a_199, a_192, a_185, a_178, a_171, a_163, a_154, a_147, a_139, a_131, a_123, a_115, a_107, a_100, a_92, a_80, a_71, a_62, a_53, a_45, a_37, a_30, a_23, a_15, a_7] k) = some (aA (mT k) (mN k) (s00.2 k)) := fun k hk nk => by
    have hm := mN_mem k hk nk
    simp only [List.mem_cons, List.not_mem_nil, or_false] at hm
    rcases hm with rfl | rfl | rfl | rfl | rfl | rfl | rfl | rfl | rfl | rfl | rfl | rfl | rfl | rfl | rfl | rfl | rfl | rfl | rfl | rfl | rfl | rfl | rfl | rfl | rfl | rfl | rfl | rfl | rfl | rfl
    · exact z_1385
    · exact z_1386
    · exact z_1387
    · exact z_1388
    · exact z_1389
    · exact z_1390
    · exact z_1391
    · exact z_1392
    · exact z_1393
    · exact z_1394
    · exact z_1395
    · exact z_1396
    · exact z_1397
    · exact z_1398
    · exact z_1399
    · exact z_1400
    · exact z_1401
    · exact z_1402
    · exact z_1403
    · exact z_1404
    · exact z_1405
    · exact z_1406
    · exact z_1407
    · exact z_1408
    · exact z_1409
    · exact z_1410
    · exact z_1411
    · exact z_1412
    · exact z_1413
    · exact z_1414
  refine j_callV (pc := 247) (m_clears_1 h_243 o (adL [a_241, a_232, a_223, a_214, a_206, a_199, a_192, a_185, a_178, a_171, a_163, a_154, a_147, a_139, a_131, a_123, a_115, a_107, a_100, a_92, a_80, a_71, a_62, a_53, a_45, a_37, a_30, a_23, a_15, a_7]) hof har hao (fun j k hj hk nj nk e => adL_inj hlen nd_1416.1 hj hk nj nk e)) (lw_V q1384 q1386 qs19 q48 q1387) rfl md_yX2_clears (RC.of1 z_1415 rfl) (by decide) (by decide) rfl (Nat.le_of_ble_eq_true rfl) dX2_init_247 (qV.k (fun s_247 q_247 => ?_))
  refine j_vret (pc := 250) rfl (hQ _ ?_) dX2_init_250
  exact ⟨adL [a_241, a_232, a_223, a_214, a_206, a_199, a_192, a_185, a_178, a_171, a_163, a_154, a_147, a_139, a_131, a_123, a_115, a_107, a_100, a_92, a_80, a_71, a_62, a_53, a_45, a_37, a_30, a_23, a_15, a_7], q_247, hao, fun j k hj hk nj nk e => adL_inj hlen nd_1416.1 hj hk nj nk e⟩

