set_option maxRecDepth 100000
set_option maxHeartbeats 4000000 in
theorem law_loop {Γ : GG} {K : KK} {l : Launch} {N0 N1 N3 o mm ou : Nat} {adm : Nat → Nat} {b LL : Nat} {xs : Nat → Int32} {QP : Option Value → (Heap → Prop) → Prop} {mc ms : Nat} (hfl : l.stackTraces = false) (L : Lie N0 N1 N3 o mm ou adm) (hW : Wd (GE Γ N3) (ACo N0 N1 N3) K) (hX : ∀ (s : State) (H : Heap), Γ.2.2 s H → va_X b LL xs s H) (hbA : ¬ Af N0 b) (hLL : LL ≤ 256) (hQ : ∀ P, QP (some (IV 1)) P) {SGD SGC SGS : Nat} (hsd : SGD + 1 ≤ 20) (hsc : SGC ≤ 300) (hss : SGS ≤ 36400) (hop : ∀ (σ : MM) (T : Nat), T < 64 → Inv σ T → ∀ (p0 p1 : Int), RR p0 → RR p1 → OPs False Γ K l N0 N1 N3 o mm ou adm σ T yX0_signAt (wsW_ yX0_signAt cX0_signAt 5 (some .int) [(0, 10, 13, 13)]) SGD SGC SGS [.ref o, IV p0, IV p1, .ref ou] yX2_signAt (ws_ yX2_signAt cX2_signAt 4 (some .int)) 4 [.ref mm, IV p0, IV p1]) : ∀ (fu T : Nat) (σ : MM) (w i : Int) (b9 c9 : Nat), 64 - T < fu → T ≤ 64 → i = 4 * (T : Int) → Inv σ T → (64 - T) * 300 ≤ b9 → (64 - T) * 36400 ≤ c9 → J Γ (Af N0) RP l RX0 "law" cL_law 7 (some .boolean) [] 20 mc ms QP X0 b9 c9 (PL Γ K N0 N1 N3 o mm ou adm σ σ w) 23 [some (.ref b), some (.ref o), some (.ref mm), some (.ref ou), some (IV i), none, none] [] := by
  intro fu
  induction fu with
  | zero => intro T σ w i b9 c9 h; exact absurd h (Nat.not_lt_zero _)
  | succ fu ih =>
    intro T σ w i b9 c9 hfu hT64 hi hI hb9 hc9
    refine j_iload (pc := 23) dL_law_23 rfl ?_
    refine j_aload_n (pc := 25) dL_law_25 rfl ?_
    refine j_slen (pc := 26) hX hbA dL_law_26 ?_
    refine j_iconst (pc := 27) dL_law_27 rfl ?_
    refine j_isub (pc := 28) dL_law_28 ?_
    refine j_icmp_gt (pc := 29) (tgt := 2286) dL_law_29 (by decide) (by omega) (by omega) (fun c => ?_) (fun c => ?_)
    · refine j_iconst (pc := 2286) dL_law_2286 rfl ?_
      exact j_zret (pc := 2287) rfl (Or.inr rfl) (hQ _) dL_law_2287
    · have hT : T < 64 := by omega
      obtain ⟨b8, hb8⟩ : ∃ b8 : Nat, b8 + 300 = b9 := ⟨b9 - 300, by omega⟩
      obtain ⟨c8, hc8⟩ : ∃ c8 : Nat, c8 + 36400 = c9 := ⟨c9 - 36400, by omega⟩
      have hback : ∀ (σ' : MM) (w' : Int), Inv σ' (T + 1) → J Γ (Af N0) RP l RX0 "law" cL_law 7 (some .boolean) [] 20 mc ms QP X0 b8 c8 (PL Γ K N0 N1 N3 o mm ou adm σ' σ' w') 2280 [some (.ref b), some (.ref o), some (.ref mm), some (.ref ou), some (IV i), none, none] [] := fun σ' w' hI' => by
        refine j_iinc (pc := 2280) dL_law_2280 rfl (by decide) (lo' := [some (.ref b), some (.ref o), some (.ref mm), some (.ref ou), some (IV (i + 4)), none, none]) rfl ?_
        refine j_goto (pc := 2283) (tgt := 23) dL_law_2283 (by decide) ?_
        exact ih (T + 1) σ' w' (i + 4) b8 c8 (by omega) (by omega) (by omega) hI' (by omega) (by omega)
      refine j_aload_n (pc := 32) dL_law_32 rfl ?_
      refine j_iload (pc := 33) dL_law_33 rfl ?_
      refine j_sld (pc := 35) hX hbA (by omega) (by omega) dL_law_35 ?_
      refine j_bipush (pc := 36) (a := 63) dL_law_36 (by decide) ?_
      refine j_iand (pc := 38) (r := (xs i.toNat &&& 63).toInt) dL_law_38 (and63I _) ?_
      have hm := and63 (xs i.toNat)
      generalize (xs i.toNat &&& 63).toInt = m9 at hm ⊢
      by_cases h35 : m9 ≤ 35
      · rcases (show m9 = 0 ∨ m9 = 1 ∨ m9 = 2 ∨ m9 = 3 ∨ m9 = 4 ∨ m9 = 5 ∨ m9 = 6 ∨ m9 = 7 ∨ m9 = 8 ∨ m9 = 9 ∨ m9 = 10 ∨ m9 = 11 ∨ m9 = 12 ∨ m9 = 13 ∨ m9 = 14 ∨ m9 = 15 ∨ m9 = 16 ∨ m9 = 17 ∨ m9 = 18 ∨ m9 = 19 ∨ m9 = 20 ∨ m9 = 21 ∨ m9 = 22 ∨ m9 = 23 ∨ m9 = 24 ∨ m9 = 25 ∨ m9 = 26 ∨ m9 = 27 ∨ m9 = 28 ∨ m9 = 29 ∨ m9 = 30 ∨ m9 = 31 ∨ m9 = 32 ∨ m9 = 33 ∨ m9 = 34 ∨ m9 = 35 by omega) with rfl | rfl | rfl | rfl | rfl | rfl | rfl | rfl | rfl | rfl | rfl | rfl | rfl | rfl | rfl | rfl | rfl | rfl | rfl | rfl | rfl | rfl | rfl | rfl | rfl | rfl | rfl | rfl | rfl | rfl | rfl | rfl | rfl | rfl | rfl | rfl
        · refine j_tswIn (pc := 39) (tgt := 196) dL_law_39 (by decide) (by decide) (by decide) (off := 157) rfl (by decide) ?_
          exact lc_0 hfl L hW hX hbA hLL hT hI (by omega) (by omega) (by omega) hback
        · refine j_tswIn (pc := 39) (tgt := 299) dL_law_39 (by decide) (by decide) (by decide) (off := 260) rfl (by decide) ?_
          exact lc_1 hfl L hW hX hbA hLL hT hI (by omega) (by omega) (by omega) hback
        · refine j_tswIn (pc := 39) (tgt := 367) dL_law_39 (by decide) (by decide) (by decide) (off := 328) rfl (by decide) ?_
          exact lc_2 hfl L hW hX hbA hLL hT hI (by omega) (by omega) (by omega) hback
        · refine j_tswIn (pc := 39) (tgt := 435) dL_law_39 (by decide) (by decide) (by decide) (off := 396) rfl (by decide) ?_
          exact lc_3 hfl L hW hX hbA hLL hT hI (by omega) (by omega) (by omega) hback
        · refine j_tswIn (pc := 39) (tgt := 503) dL_law_39 (by decide) (by decide) (by decide) (off := 464) rfl (by decide) ?_
          exact lc_4 hfl L hW hX hbA hLL hT hI (by omega) (by omega) (by omega) hback
        · refine j_tswIn (pc := 39) (tgt := 571) dL_law_39 (by decide) (by decide) (by decide) (off := 532) rfl (by decide) ?_
          exact lc_5 hfl L hW hX hbA hLL hT hI (by omega) (by omega) (by omega) hback
        · refine j_tswIn (pc := 39) (tgt := 639) dL_law_39 (by decide) (by decide) (by decide) (off := 600) rfl (by decide) ?_
          exact lc_6 hfl L hW hX hbA hLL hT hI (by omega) (by omega) (by omega) hback
        · refine j_tswIn (pc := 39) (tgt := 702) dL_law_39 (by decide) (by decide) (by decide) (off := 663) rfl (by decide) ?_
          exact lc_7 hfl L hW hX hbA hLL hT hI (by omega) (by omega) (by omega) hback
        · refine j_tswIn (pc := 39) (tgt := 770) dL_law_39 (by decide) (by decide) (by decide) (off := 731) rfl (by decide) ?_
          exact lc_8 hfl L hW hX hbA hLL hT hI (by omega) (by omega) (by omega) hback
        · refine j_tswIn (pc := 39) (tgt := 866) dL_law_39 (by decide) (by decide) (by decide) (off := 827) rfl (by decide) ?_
          exact lc_9 hfl L hW hX hbA hLL hT hI (by omega) (by omega) (by omega) hback
        · refine j_tswIn (pc := 39) (tgt := 934) dL_law_39 (by decide) (by decide) (by decide) (off := 895) rfl (by decide) ?_
          exact lc_10 hfl L hW hX hbA hLL hT hI (by omega) (by omega) (by omega) hback
        · refine j_tswIn (pc := 39) (tgt := 990) dL_law_39 (by decide) (by decide) (by decide) (off := 951) rfl (by decide) ?_
          exact lc_11 hfl L hW hX hbA hLL hT hI (by omega) (by omega) (by omega) hback
        · refine j_tswIn (pc := 39) (tgt := 1003) dL_law_39 (by decide) (by decide) (by decide) (off := 964) rfl (by decide) ?_
          exact lc_12 hfl L hW hX hbA hLL hT hI (by omega) (by omega) (by omega) hback
        · refine j_tswIn (pc := 39) (tgt := 1016) dL_law_39 (by decide) (by decide) (by decide) (off := 977) rfl (by decide) ?_
          exact lc_13 hfl L hW hX hbA hLL hT hI (by omega) (by omega) (by omega) hback
        · refine j_tswIn (pc := 39) (tgt := 1079) dL_law_39 (by decide) (by decide) (by decide) (off := 1040) rfl (by decide) ?_
          exact lc_14 hfl L hW hX hbA hLL hT hI (by omega) (by omega) (by omega) hback
        · refine j_tswIn (pc := 39) (tgt := 1135) dL_law_39 (by decide) (by decide) (by decide) (off := 1096) rfl (by decide) ?_
          exact lc_15 hfl L hW hX hbA hLL hT hI (by omega) (by omega) (by omega) hback
        · refine j_tswIn (pc := 39) (tgt := 1191) dL_law_39 (by decide) (by decide) (by decide) (off := 1152) rfl (by decide) ?_
          exact lc_16 hfl L hW hX hbA hLL hT hI (by omega) (by omega) (by omega) hback
        · refine j_tswIn (pc := 39) (tgt := 1259) dL_law_39 (by decide) (by decide) (by decide) (off := 1220) rfl (by decide) ?_
          exact lc_17 hfl L hW hX hbA hLL hT hI (by omega) (by omega) (by omega) hback
        · refine j_tswIn (pc := 39) (tgt := 1339) dL_law_39 (by decide) (by decide) (by decide) (off := 1300) rfl (by decide) ?_
          exact lc_18 hfl L hW hX hbA hLL hT hI (by omega) (by omega) (by omega) hback
        · refine j_tswIn (pc := 39) (tgt := 1395) dL_law_39 (by decide) (by decide) (by decide) (off := 1356) rfl (by decide) ?_
          exact lc_19 hfl L hW hX hbA hLL hT hI (by omega) (by omega) (by omega) hback
        · refine j_tswIn (pc := 39) (tgt := 1408) dL_law_39 (by decide) (by decide) (by decide) (off := 1369) rfl (by decide) ?_
          exact lc_20 hfl L hW hX hbA hLL hT hI (by omega) (by omega) (by omega) hback
        · refine j_tswIn (pc := 39) (tgt := 1464) dL_law_39 (by decide) (by decide) (by decide) (off := 1425) rfl (by decide) ?_
          exact lc_21 hfl L hW hX hbA hLL hT hI (by omega) (by omega) (by omega) hback
        · refine j_tswIn (pc := 39) (tgt := 1520) dL_law_39 (by decide) (by decide) (by decide) (off := 1481) rfl (by decide) ?_
          exact lc_22 hfl L hW hX hbA hLL hT hI (by omega) (by omega) (by omega) hback
        · refine j_tswIn (pc := 39) (tgt := 1576) dL_law_39 (by decide) (by decide) (by decide) (off := 1537) rfl (by decide) ?_
          exact lc_23 hfl L hW hX hbA hLL hT hI (by omega) (by omega) (by omega) hback
        · refine j_tswIn (pc := 39) (tgt := 1644) dL_law_39 (by decide) (by decide) (by decide) (off := 1605) rfl (by decide) ?_
          exact lc_24 hfl L hW hX hbA hLL hT hI (by omega) (by omega) (by omega) hback
        · refine j_tswIn (pc := 39) (tgt := 1719) dL_law_39 (by decide) (by decide) (by decide) (off := 1680) rfl (by decide) ?_
          exact lc_25 hfl L hW hX hbA hLL hT hI (by omega) (by omega) (by omega) hback
        · refine j_tswIn (pc := 39) (tgt := 1775) dL_law_39 (by decide) (by decide) (by decide) (off := 1736) rfl (by decide) ?_
          exact lc_26 hfl L hW hX hbA hLL hT hI (by omega) (by omega) (by omega) hback
        · refine j_tswIn (pc := 39) (tgt := 1838) dL_law_39 (by decide) (by decide) (by decide) (off := 1799) rfl (by decide) ?_
          exact lc_27 hfl L hW hX hbA hLL hT hI (by omega) (by omega) (by omega) hback
        · refine j_tswIn (pc := 39) (tgt := 1906) dL_law_39 (by decide) (by decide) (by decide) (off := 1867) rfl (by decide) ?_
          exact lc_28 hfl L hW hX hbA hLL hT hI (by omega) (by omega) (by omega) hback
        · refine j_tswIn (pc := 39) (tgt := 1962) dL_law_39 (by decide) (by decide) (by decide) (off := 1923) rfl (by decide) ?_
          exact lc_29 hfl L hW hX hbA hLL hT hI (by omega) (by omega) (by omega) hback
        · refine j_tswIn (pc := 39) (tgt := 2018) dL_law_39 (by decide) (by decide) (by decide) (off := 1979) rfl (by decide) ?_
          exact lc_30 hfl L hW hX hbA hLL hT hI (by omega) (by omega) (by omega) hback
        · refine j_tswIn (pc := 39) (tgt := 2074) dL_law_39 (by decide) (by decide) (by decide) (off := 2035) rfl (by decide) ?_
          exact lc_31 hfl L hW hX hbA hLL hT hI (by omega) (by omega) (by omega) hback
        · refine j_tswIn (pc := 39) (tgt := 2130) dL_law_39 (by decide) (by decide) (by decide) (off := 2091) rfl (by decide) ?_
          exact lc_32 hfl L hW hX hbA hLL hT hI (by omega) (by omega) (by omega) hback
        · refine j_tswIn (pc := 39) (tgt := 2143) dL_law_39 (by decide) (by decide) (by decide) (off := 2104) rfl (by decide) ?_
          exact lc_33 hfl L hW hX hbA hLL hT hI (by omega) (by omega) (by omega) hback
        · refine j_tswIn (pc := 39) (tgt := 2199) dL_law_39 (by decide) (by decide) (by decide) (off := 2160) rfl (by decide) ?_
          exact lc_34 hfl L hW hX hbA hLL hT hI (by omega) (by omega) (by omega) hback
        · refine j_tswIn (pc := 39) (tgt := 2212) dL_law_39 (by decide) (by decide) (by decide) (off := 2173) rfl (by decide) ?_
          exact lc_35 hfl L hW hX hbA hLL hT hI (by omega) (by omega) (by omega) hsd hsc hss (hop σ T hT hI) hback
      · refine j_tswOut (pc := 39) (tgt := 2280) dL_law_39 (by omega) (by omega) (by decide) ?_
        refine j_room (cl' := b8) (sl' := c8) (by omega) (by omega) ?_
        exact hback σ w (hI.of hI.1 rfl rfl rfl rfl rfl rfl)

