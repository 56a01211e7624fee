set_option maxRecDepth 100000
theorem fn_X0_8_X1 : FN RX0 8 0 8 [.null, .null, .null, .null, .null, IV 0, .null, .null] := ⟨RX1, TX1, tyX1, rfl, in_X1, tyX1_ok, q81, q82, q44, fun j hj => by rcases (show j = 0 ∨ j = 1 ∨ j = 2 ∨ j = 3 ∨ j = 4 ∨ j = 5 ∨ j = 6 ∨ j = 7 by omega) with rfl | rfl | rfl | rfl | rfl | rfl | rfl | rfl <;> rfl⟩
theorem fn_X0_116_X2 : FN RX0 116 1 44 [IV 0, .null, .null, .null, .null, .null, IV 0, .null, .null, IV 0, .null, .null, .null, IV 0, IV 0, IV 0, IV 0, IV 0, .null, IV 0, .null, .null, .null, .null, .null, .null, IV 0, .null, .null, .null, .null, .null, .null, .null, .null, .null, .null, IV 0, IV 0, .null, .null, .null, IV 0, IV 0] := ⟨RX2, TX2, tyX2, rfl, in_X2, tyX2_ok, q1378, q1379, q48, fun j hj => by rcases (show j = 0 ∨ j = 1 ∨ j = 2 ∨ j = 3 ∨ j = 4 ∨ j = 5 ∨ j = 6 ∨ j = 7 ∨ j = 8 ∨ j = 9 ∨ j = 10 ∨ j = 11 ∨ j = 12 ∨ j = 13 ∨ j = 14 ∨ j = 15 ∨ j = 16 ∨ j = 17 ∨ j = 18 ∨ j = 19 ∨ j = 20 ∨ j = 21 ∨ j = 22 ∨ j = 23 ∨ j = 24 ∨ j = 25 ∨ j = 26 ∨ j = 27 ∨ j = 28 ∨ j = 29 ∨ j = 30 ∨ j = 31 ∨ j = 32 ∨ j = 33 ∨ j = 34 ∨ j = 35 ∨ j = 36 ∨ j = 37 ∨ j = 38 ∨ j = 39 ∨ j = 40 ∨ j = 41 ∨ j = 42 ∨ j = 43 by omega) with rfl | rfl | rfl | rfl | rfl | rfl | rfl | rfl | rfl | rfl | rfl | rfl | rfl | rfl | rfl | rfl | rfl | rfl | rfl | rfl | rfl | rfl | rfl | rfl | rfl | rfl | rfl | rfl | rfl | rfl | rfl | rfl | rfl | rfl | rfl | rfl | rfl | rfl | rfl | rfl | rfl | rfl | rfl | rfl <;> rfl⟩
theorem md_yX1_init : MD yX1_init 0 := by decide +kernel
theorem md_yX2_init : MD yX2_init 0 := by decide +kernel
set_option maxHeartbeats 400000 in
theorem law_all {Γ : GG} {K : KK} {l : Launch} {N0 b LL : Nat} {xs : Nat → Int32} {QP : Option Value → (Heap → Prop) → Prop} (hfl : l.stackTraces = false) (hWd : ∀ (N : Nat) (A : Nat → Prop), N0 ≤ N → (∀ q, N ≤ q → A q) → (∀ q, A q → N0 ≤ q) → Wd (GE Γ N) A K) (hX : ∀ (s : State) (H : Heap), Γ.2.2 s H → va_X b LL xs s H) (hbA : ¬ Af N0 b) (hLL : LL ≤ 256) (hQ : ∀ P, QP (some (IV 1)) P) {SGD SGC SGS : Nat} (hsd : SGD + 1 ≤ 20) (hsc : SGC ≤ 300) (hss : SGS ≤ 36400) (hop : ∀ (N1 N3 o mm ou : Nat) (adm : Nat → Nat) (σ : MM) (T : Nat), Lie N0 N1 N3 o mm ou adm → Wd (GE Γ N3) (ACo N0 N1 N3) K → T < 64 → Inv σ T → ∀ (p0 p1 : Int), RR p0 → RR p1 → OPs False Γ K l N0 N1 N3 o mm ou adm σ T yX0_signAt (wsW_ yX0_signAt cX0_signAt 5 (some .int) [(0, 10, 13, 13)]) SGD SGC SGS [.ref o, IV p0, IV p1, .ref ou] yX2_signAt (ws_ yX2_signAt cX2_signAt 4 (some .int)) 4 [.ref mm, IV p0, IV p1]) : J Γ (Af N0) RP l RX0 "law" cL_law 7 (some .boolean) [] 20 603072 7170154 QP X0 603072 7170154 (fun H => H.size = N0) 0 [some (.ref b), none, none, none, none, none, none] [] := by
  obtain ⟨mc, hmc⟩ : ∃ n : Nat, n = 603072 := ⟨_, rfl⟩
  obtain ⟨ms, hms⟩ : ∃ n : Nat, n = 7170154 := ⟨_, rfl⟩
  rw [← hmc, ← hms]
  obtain ⟨b1, hb1⟩ : ∃ n : Nat, n + 1 = mc := ⟨mc - 1, by omega⟩
  obtain ⟨b2, hb2⟩ : ∃ n : Nat, n + 6 = b1 := ⟨b1 - 6, by omega⟩
  obtain ⟨b3, hb3⟩ : ∃ n : Nat, n + 1 = b2 := ⟨b2 - 1, by omega⟩
  obtain ⟨b4, hb4⟩ : ∃ n : Nat, n + 30 = b3 := ⟨b3 - 30, by omega⟩
  obtain ⟨b5, hb5⟩ : ∃ n : Nat, n + 1 = b4 := ⟨b4 - 1, by omega⟩
  obtain ⟨c1, hc1⟩ : ∃ n : Nat, n + 8 = ms := ⟨ms - 8, by omega⟩
  obtain ⟨c2, hc2⟩ : ∃ n : Nat, n + 160 = c1 := ⟨c1 - 160, by omega⟩
  obtain ⟨c3, hc3⟩ : ∃ n : Nat, n + 44 = c2 := ⟨c2 - 44, by omega⟩
  obtain ⟨c4, hc4⟩ : ∃ n : Nat, n + 5483 = c3 := ⟨c3 - 5483, by omega⟩
  obtain ⟨c5, hc5⟩ : ∃ n : Nat, n + 1 = c4 := ⟨c4 - 1, by omega⟩
  refine j_room (cl' := b1 + 1) (sl' := c1 + 8) (by omega) (by omega) ?_
  refine jp_new (pc := 0) (P' := fun a H => (N0 ≤ H.size ∧ N0 ≤ a) ∧ cOK Γ H a (aO 0 [.null, .null, .null, .null, .null, IV 0, .null, .null])) fn_X0_8_X1 (fun H H1 h1 h2 h3 _ => ⟨⟨by omega, by omega⟩, h2⟩) dL_law_0 (fun o => ?_)
  refine j_dup (pc := 3) dL_law_3 rfl ?_
  refine j_room (cl' := b2 + 6) (sl' := c2 + 160) (by omega) (by omega) ?_
  refine j_callI (pc := 4) (As := []) (rest := [.ref o]) (law_i1 (hWd N0 (Af N0) (Nat.le_refl _) (fun q h => h) (fun q h => h))) (lw_meth q85) q44 q83 q84 rfl md_yX1_init (by decide) (by decide) rfl (Nat.le_of_ble_eq_true rfl) dL_law_4 (fun v P hq => ?_)
  obtain ⟨rfl, rfl⟩ := hq
  refine jp_wk (P' := fun H => ∃ N1 : Nat, (N0 ≤ o ∧ o < N1) ∧ (H.size = N1 ∧ PC Γ K N0 N1 o H)) (fun H ⟨h, ad, h1, h2, h3, h4⟩ => ⟨H.size, ⟨h3, h4⟩, rfl, h, ad, h1.wide rfl rfl (fun q z1 z2 => ⟨z2, z1⟩), h2⟩) (jp_ex fun N1 => jp_and fun ho => ?_)
  have h01 : N0 ≤ N1 := by omega
  refine j_astore_n (pc := 7) dL_law_7 (by decide) (lo' := [some (.ref b), some (.ref o), none, none, none, none, none]) rfl ?_
  refine j_room (cl' := b3 + 1) (sl' := c3 + 44) (by omega) (by omega) ?_
  refine jp_new (pc := 8) (P' := fun a H => a = N1 ∧ (H.size = N1 + 1 ∧ PC Γ K N0 N1 o H ∧ cOK Γ H N1 (aO 1 fsM))) fn_X0_116_X2 (fun H H1 h1 h2 h3 h4 => ⟨h1.1, by rw [h3, h1.1], h1.2.kept (fun q z _ => h4 q z), by rw [← h1.1]; exact h2⟩) dL_law_8 (fun a2 => jp_and fun ha2 => ?_)
  subst ha2
  refine j_dup (pc := 11) dL_law_11 rfl ?_
  refine j_room (cl' := b4 + 30) (sl' := c4 + 5483) (by omega) (by omega) ?_
  refine j_callI (pc := 12) (As := []) (rest := [.ref a2]) (law_i2 h01) (lw_meth q1382) q48 q1380 q1381 rfl md_yX2_init (by decide) (by decide) rfl (Nat.le_of_ble_eq_true rfl) dL_law_12 (fun v P hq => ?_)
  obtain ⟨rfl, rfl⟩ := hq
  refine j_astore_n (pc := 15) dL_law_15 (by decide) (lo' := [some (.ref b), some (.ref o), some (.ref a2), none, none, none, none]) rfl ?_
  refine j_iconst (pc := 16) dL_law_16 rfl ?_
  refine j_room (cl' := b5 + 1) (sl' := c5 + 1) (by omega) (by omega) ?_
  refine jp_newl (pc := 17) (atype := .long) (P' := fun a H => ∃ adm : Nat → Nat, Lie N0 a2 (a + 1) o a2 a adm ∧ PL Γ K N0 a2 (a + 1) o a2 a adm sStart sStart 0 H) rfl q1780 (fun H H1 h1 h2 h3 h4 => ?_) dL_law_17 (fun ou => ?_)
  · obtain ⟨g1, adm, g2, g3⟩ := h1
    exact ⟨adm, PL.start ho h3 (g1.kept (fun q z _ => h4 q z)) (g2.kept (fun q z _ => h4 q z)) g3 h2⟩
  refine jp_ex fun adm => jp_and fun hL => ?_
  refine j_astore_n (pc := 19) dL_law_19 (by decide) (lo' := [some (.ref b), some (.ref o), some (.ref a2), some (.ref ou), none, none, none]) rfl ?_
  refine j_iconst (pc := 20) dL_law_20 rfl ?_
  refine j_istore (pc := 21) dL_law_21 (by decide) (lo' := [some (.ref b), some (.ref o), some (.ref a2), some (.ref ou), some (IV 0), none, none]) rfl ?_
  have hW9 := hWd (ou + 1) (ACo N0 a2 (ou + 1)) (by have := hL.1; have := hL.2.1; omega) (fun q h => Or.inr h) (fun q h => by have := hL.1; have := hL.2.1; rcases h with h | h <;> omega)
  exact law_loop hfl hL hW9 hX hbA hLL hQ hsd hsc hss (fun σ T hT hI => hop _ _ _ _ _ _ σ T hL hW9 hT hI) 65 0 sStart 0 0 b5 c5 (by omega) (by omega) rfl Inv.start (by omega) (by omega)

