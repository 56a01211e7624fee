set_option maxRecDepth 100000
theorem pn_X0 : plainName RX0 = true := by decide
theorem md_yX1_bar : MD yX1_bar 3 := by decide +kernel
set_option maxHeartbeats 4000000 in
theorem h_bar {Γ : GG} {A : Nat → Prop} {K : KK} {l : Launch} {ou : Nat} (hou : ¬ A ou) (hnx : NX Γ) (h : AL2) (w : Int) (o : Nat) (p0 : Int) (p1 : Int) (p2 : Int) {fs : List Value} (ho : h o = some (pO 0 fs)) {d' mc' ms' : Nat} {t res : Int} {P F : AL2 → Prop} (hres : res = 0 ∨ res = 1) (hC : Ct Γ A (Rep2 Γ A K) l yX1_bar (ws_ yX1_bar cX1_bar 6 (some .boolean)) d' mc' ms' [.ref o, IV p0, IV p1, IV p2] h (qI (fun r h' => t = 0 ∧ r = res ∧ P h')) (fun E h' => xE ["java/lang/IndexOutOfBoundsException", "java/lang/IllegalArgumentException"] t E ∧ F h')) : Ct Γ (AO A ou) (RepO Γ A K ou) l yX0_bar (wsW_ yX0_bar cX0_bar 6 (some .int) [(0, 19, 22, 13), (0, 19, 26, 15)]) (d' + 1) mc' ms' [.ref o, IV p0, IV p1, IV p2, .ref ou] (h, w) (hE t (iI res).toInt P F) X0 := by
  refine Ct.ofJH (own := RX0) (nm := "bar") (lo := [some (.ref o), some (IV p0), some (IV p1), some (IV p2), some (.ref ou), none]) pn_X0 rfl rfl (List.forall_mem_cons.mpr ⟨rfl, (List.forall_mem_cons.mpr ⟨rfl, (List.forall_mem_cons.mpr ⟨rfl, (List.forall_mem_cons.mpr ⟨rfl, (List.forall_mem_cons.mpr ⟨rfl, (fun _ h => nomatch h)⟩)⟩)⟩)⟩)⟩) (Nat.le_of_ble_eq_true rfl) rfl ?_
  have hQ : ∀ (r : Int) (x' : LSt), (r = t ∧ (t = 0 → x'.2 = (iI res).toInt ∧ P x'.1) ∧ (t ≠ 0 → F x'.1)) → (hE t (iI res).toInt P F) (some (IV r)) x' := fun r x' h => ⟨r, rfl, h⟩
  generalize (hE t (iI res).toInt P F) = QP at hQ ⊢
  refine j_aload (pc := 0) dX0_bar_0 rfl ?_
  refine j_iconst (pc := 2) dX0_bar_2 rfl ?_
  refine j_aload_n (pc := 3) dX0_bar_3 rfl ?_
  refine j_iload_n (pc := 4) dX0_bar_4 rfl ?_
  refine j_iload_n (pc := 5) dX0_bar_5 rfl ?_
  refine j_iload_n (pc := 6) dX0_bar_6 rfl ?_
  refine j_room (cl' := 0 + mc') (sl' := 0 + ms') (by omega) (by omega) ?_
  refine j_callVc (pc := 7) (As := [IV p0, IV p1, IV p2]) (rest := [IV 0, .ref ou]) (hC.toO (w := w) hou) (lw_V q366 q367 q368 q44 q369) rfl md_yX1_bar (RC.ofW (x := (h, w)) ho rfl) (Nat.le_refl _) (by decide) rfl (Nat.le_of_ble_eq_true rfl) dX0_bar_7 (fun E x' hx => ?_) (fun v x' hq => ?_)
  · obtain ⟨hx, hF⟩ := hx
    rcases xE2 hx with ⟨ht, rfl⟩ | ⟨ht, rfl⟩
    · refine ⟨[], ⟨0, 19, 22, 13⟩, [⟨0, 19, 26, 15⟩], _, rfl, (fun _ h => nomatch h), rfl, by decide, q288, fun s H h => (hnx s H h).1, fun q => ?_⟩
      refine j_astore (pc := 22) dX0_bar_22 (by decide) (lo' := [some (.ref o), some (IV p0), some (IV p1), some (IV p2), some (.ref ou), some (.ref q)]) rfl ?_
      refine j_iconst (pc := 24) dX0_bar_24 rfl ?_
      exact j_iret (pc := 25) rfl (hQ _ _ ⟨by omega, fun z => by omega, fun _ => hF⟩) dX0_bar_25
    · refine ⟨[⟨0, 19, 22, 13⟩], ⟨0, 19, 26, 15⟩, [], _, rfl, (List.forall_mem_cons.mpr ⟨Or.inr ⟨by decide, _, q288, fun s H h => (hnx s H h).2.2.2.1⟩, (fun _ h => nomatch h)⟩), rfl, by decide, q365, fun s H h => (hnx s H h).2.1, fun q => ?_⟩
      refine j_astore (pc := 26) dX0_bar_26 (by decide) (lo' := [some (.ref o), some (IV p0), some (IV p1), some (IV p2), some (.ref ou), some (.ref q)]) rfl ?_
      refine j_iconst (pc := 28) dX0_bar_28 rfl ?_
      exact j_iret (pc := 29) rfl (hQ _ _ ⟨by omega, fun z => by omega, fun _ => hF⟩) dX0_bar_29
  · obtain ⟨r, rfl, ht, hr, hP⟩ := hq
    refine j_if_eq (pc := 10) (tgt := 17) dX0_bar_10 (by decide) (by omega) (fun c => ?_) (fun c => ?_)
    · refine j_lconst (pc := 17) (v := Int64.ofInt 0) dX0_bar_17 rfl ?_
      refine j_lastO (pc := 18) (v := 0) rfl dX0_bar_18 ?_ hou
      refine j_goto (pc := 19) (tgt := 30) dX0_bar_19 (by decide) ?_
      refine j_iconst (pc := 30) dX0_bar_30 rfl ?_
      exact j_iret (pc := 31) rfl (hQ _ _ ⟨by omega, fun _ => ⟨by show 0 = (iI res).toInt; rw [show res = 0 by omega]; rfl, hP⟩, fun z => absurd ht z⟩) dX0_bar_31
    · refine j_lconst (pc := 13) (v := Int64.ofInt 1) dX0_bar_13 rfl ?_
      refine j_goto (pc := 14) (tgt := 18) dX0_bar_14 (by decide) ?_
      refine j_lastO (pc := 18) (v := 1) rfl dX0_bar_18 ?_ hou
      refine j_goto (pc := 19) (tgt := 30) dX0_bar_19 (by decide) ?_
      refine j_iconst (pc := 30) dX0_bar_30 rfl ?_
      exact j_iret (pc := 31) rfl (hQ _ _ ⟨by omega, fun _ => ⟨by show 1 = (iI res).toInt; rw [show res = 1 by omega]; rfl, hP⟩, fun z => absurd ht z⟩) dX0_bar_31

theorem md_yX1_way : MD yX1_way 2 := by decide +kernel
set_option maxHeartbeats 4000000 in
theorem h_way {Γ : GG} {A : Nat → Prop} {K : KK} {l : Launch} {ou : Nat} (hou : ¬ A ou) (hnx : NX Γ) (h : AL2) (w : Int) (o : Nat) (p0 : Int) (p1 : Int) {fs : List Value} (ho : h o = some (pO 0 fs)) {d' mc' ms' : Nat} {t res : Int} {P F : AL2 → Prop}  (hC : Ct Γ A (Rep2 Γ A K) l yX1_way (ws_ yX1_way cX1_way 3 (some .int)) d' mc' ms' [.ref o, IV p0, IV p1] h (qI (fun r h' => t = 0 ∧ r = res ∧ P h')) (fun E h' => xE ["java/lang/IndexOutOfBoundsException"] t E ∧ F h')) : Ct Γ (AO A ou) (RepO Γ A K ou) l yX0_way (wsW_ yX0_way cX0_way 5 (some .int) [(0, 10, 13, 13)]) (d' + 1) mc' ms' [.ref o, IV p0, IV p1, .ref ou] (h, w) (hE t (iI res).toInt P F) X0 := by
  refine Ct.ofJH (own := RX0) (nm := "way") (lo := [some (.ref o), some (IV p0), some (IV p1), some (.ref ou), none]) pn_X0 rfl rfl (List.forall_mem_cons.mpr ⟨rfl, (List.forall_mem_cons.mpr ⟨rfl, (List.forall_mem_cons.mpr ⟨rfl, (List.forall_mem_cons.mpr ⟨rfl, (fun _ h => nomatch h)⟩)⟩)⟩)⟩) (Nat.le_of_ble_eq_true rfl) rfl ?_
  have hQ : ∀ (r : Int) (x' : LSt), (r = t ∧ (t = 0 → x'.2 = (iI res).toInt ∧ P x'.1) ∧ (t ≠ 0 → F x'.1)) → (hE t (iI res).toInt P F) (some (IV r)) x' := fun r x' h => ⟨r, rfl, h⟩
  generalize (hE t (iI res).toInt P F) = QP at hQ ⊢
  refine j_aload_n (pc := 0) dX0_way_0 rfl ?_
  refine j_iconst (pc := 1) dX0_way_1 rfl ?_
  refine j_aload_n (pc := 2) dX0_way_2 rfl ?_
  refine j_iload_n (pc := 3) dX0_way_3 rfl ?_
  refine j_iload_n (pc := 4) dX0_way_4 rfl ?_
  refine j_room (cl' := 0 + mc') (sl' := 0 + ms') (by omega) (by omega) ?_
  refine j_callVc (pc := 5) (As := [IV p0, IV p1]) (rest := [IV 0, .ref ou]) (hC.toO (w := w) hou) (lw_V q424 q425 q426 q44 q427) rfl md_yX1_way (RC.ofW (x := (h, w)) ho rfl) (Nat.le_refl _) (by decide) rfl (Nat.le_of_ble_eq_true rfl) dX0_way_5 (fun E x' hx => ?_) (fun v x' hq => ?_)
  · obtain ⟨hx, hF⟩ := hx
    obtain ⟨ht, rfl⟩ := xE1 hx
    refine ⟨[], ⟨0, 10, 13, 13⟩, [], _, rfl, (fun _ h => nomatch h), rfl, by decide, q288, fun s H h => (hnx s H h).1, fun q => ?_⟩
    refine j_astore (pc := 13) dX0_way_13 (by decide) (lo' := [some (.ref o), some (IV p0), some (IV p1), some (.ref ou), some (.ref q)]) rfl ?_
    refine j_iconst (pc := 15) dX0_way_15 rfl ?_
    exact j_iret (pc := 16) rfl (hQ _ _ ⟨by omega, fun z => by omega, fun _ => hF⟩) dX0_way_16
  · obtain ⟨r, rfl, ht, hr, hP⟩ := hq
    rw [IVw r]
    refine j_i2l (pc := 8) dX0_way_8 (rrI _) ?_
    refine j_lastO (pc := 9) (v := (iI r).toInt) rfl dX0_way_9 ?_ hou
    refine j_goto (pc := 10) (tgt := 17) dX0_way_10 (by decide) ?_
    refine j_iconst (pc := 17) dX0_way_17 rfl ?_
    exact j_iret (pc := 18) rfl (hQ _ _ ⟨by omega, fun _ => ⟨by show (iI r).toInt = (iI res).toInt; rw [hr], hP⟩, fun z => absurd ht z⟩) dX0_way_18

theorem md_yX1_station : MD yX1_station 2 := by decide +kernel
set_option maxHeartbeats 4000000 in
theorem h_station {Γ : GG} {A : Nat → Prop} {K : KK} {l : Launch} {ou : Nat} (hou : ¬ A ou) (hnx : NX Γ) (h : AL2) (w : Int) (o : Nat) (p0 : Int) (p1 : Int) {fs : List Value} (ho : h o = some (pO 0 fs)) {d' mc' ms' : Nat} {t res : Int} {P F : AL2 → Prop}  (hC : Ct Γ A (Rep2 Γ A K) l yX1_station (ws_ yX1_station cX1_station 3 (some .int)) d' mc' ms' [.ref o, IV p0, IV p1] h (qI (fun r h' => t = 0 ∧ r = res ∧ P h')) (fun E h' => xE ["java/lang/IndexOutOfBoundsException", "java/lang/IllegalArgumentException", "java/lang/IllegalStateException"] t E ∧ F h')) : Ct Γ (AO A ou) (RepO Γ A K ou) l yX0_station (wsW_ yX0_station cX0_station 5 (some .int) [(0, 10, 13, 13), (0, 10, 17, 15), (0, 10, 21, 24)]) (d' + 1) mc' ms' [.ref o, IV p0, IV p1, .ref ou] (h, w) (hE t (iI res).toInt P F) X0 := by
  refine Ct.ofJH (own := RX0) (nm := "station") (lo := [some (.ref o), some (IV p0), some (IV p1), some (.ref ou), none]) pn_X0 rfl rfl (List.forall_mem_cons.mpr ⟨rfl, (List.forall_mem_cons.mpr ⟨rfl, (List.forall_mem_cons.mpr ⟨rfl, (List.forall_mem_cons.mpr ⟨rfl, (fun _ h => nomatch h)⟩)⟩)⟩)⟩) (Nat.le_of_ble_eq_true rfl) rfl ?_
  have hQ : ∀ (r : Int) (x' : LSt), (r = t ∧ (t = 0 → x'.2 = (iI res).toInt ∧ P x'.1) ∧ (t ≠ 0 → F x'.1)) → (hE t (iI res).toInt P F) (some (IV r)) x' := fun r x' h => ⟨r, rfl, h⟩
  generalize (hE t (iI res).toInt P F) = QP at hQ ⊢
  refine j_aload_n (pc := 0) dX0_station_0 rfl ?_
  refine j_iconst (pc := 1) dX0_station_1 rfl ?_
  refine j_aload_n (pc := 2) dX0_station_2 rfl ?_
  refine j_iload_n (pc := 3) dX0_station_3 rfl ?_
  refine j_iload_n (pc := 4) dX0_station_4 rfl ?_
  refine j_room (cl' := 0 + mc') (sl' := 0 + ms') (by omega) (by omega) ?_
  refine j_callVc (pc := 5) (As := [IV p0, IV p1]) (rest := [IV 0, .ref ou]) (hC.toO (w := w) hou) (lw_V q436 q437 q438 q44 q439) rfl md_yX1_station (RC.ofW (x := (h, w)) ho rfl) (Nat.le_refl _) (by decide) rfl (Nat.le_of_ble_eq_true rfl) dX0_station_5 (fun E x' hx => ?_) (fun v x' hq => ?_)
  · obtain ⟨hx, hF⟩ := hx
    rcases xE3 hx with ⟨ht, rfl⟩ | ⟨ht, rfl⟩ | ⟨ht, rfl⟩
    · refine ⟨[], ⟨0, 10, 13, 13⟩, [⟨0, 10, 17, 15⟩, ⟨0, 10, 21, 24⟩], _, rfl, (fun _ h => nomatch h), rfl, by decide, q288, fun s H h => (hnx s H h).1, fun q => ?_⟩
      refine j_astore (pc := 13) dX0_station_13 (by decide) (lo' := [some (.ref o), some (IV p0), some (IV p1), some (.ref ou), some (.ref q)]) rfl ?_
      refine j_iconst (pc := 15) dX0_station_15 rfl ?_
      exact j_iret (pc := 16) rfl (hQ _ _ ⟨by omega, fun z => by omega, fun _ => hF⟩) dX0_station_16
    · refine ⟨[⟨0, 10, 13, 13⟩], ⟨0, 10, 17, 15⟩, [⟨0, 10, 21, 24⟩], _, rfl, (List.forall_mem_cons.mpr ⟨Or.inr ⟨by decide, _, q288, fun s H h => (hnx s H h).2.2.2.1⟩, (fun _ h => nomatch h)⟩), rfl, by decide, q365, fun s H h => (hnx s H h).2.1, fun q => ?_⟩
      refine j_astore (pc := 17) dX0_station_17 (by decide) (lo' := [some (.ref o), some (IV p0), some (IV p1), some (.ref ou), some (.ref q)]) rfl ?_
      refine j_iconst (pc := 19) dX0_station_19 rfl ?_
      exact j_iret (pc := 20) rfl (hQ _ _ ⟨by omega, fun z => by omega, fun _ => hF⟩) dX0_station_20
    · refine ⟨[⟨0, 10, 13, 13⟩, ⟨0, 10, 17, 15⟩], ⟨0, 10, 21, 24⟩, [], _, rfl, (List.forall_mem_cons.mpr ⟨Or.inr ⟨by decide, _, q288, fun s H h => (hnx s H h).2.2.2.2.1⟩, (List.forall_mem_cons.mpr ⟨Or.inr ⟨by decide, _, q365, fun s H h => (hnx s H h).2.2.2.2.2⟩, (fun _ h => nomatch h)⟩)⟩), rfl, by decide, q435, fun s H h => (hnx s H h).2.2.1, fun q => ?_⟩
      refine j_astore (pc := 21) dX0_station_21 (by decide) (lo' := [some (.ref o), some (IV p0), some (IV p1), some (.ref ou), some (.ref q)]) rfl ?_
      refine j_iconst (pc := 23) dX0_station_23 rfl ?_
      exact j_iret (pc := 24) rfl (hQ _ _ ⟨by omega, fun z => by omega, fun _ => hF⟩) dX0_station_24
  · obtain ⟨r, rfl, ht, hr, hP⟩ := hq
    rw [IVw r]
    refine j_i2l (pc := 8) dX0_station_8 (rrI _) ?_
    refine j_lastO (pc := 9) (v := (iI r).toInt) rfl dX0_station_9 ?_ hou
    refine j_goto (pc := 10) (tgt := 25) dX0_station_10 (by decide) ?_
    refine j_iconst (pc := 25) dX0_station_25 rfl ?_
    exact j_iret (pc := 26) rfl (hQ _ _ ⟨by omega, fun _ => ⟨by show (iI r).toInt = (iI res).toInt; rw [hr], hP⟩, fun z => absurd ht z⟩) dX0_station_26

theorem md_yX1_setSeats : MD yX1_setSeats 2 := by decide +kernel
set_option maxHeartbeats 4000000 in
theorem h_setSeats {Γ : GG} {A : Nat → Prop} {K : KK} {l : Launch} {ou : Nat} (hou : ¬ A ou) (hnx : NX Γ) (h : AL2) (w : Int) (o : Nat) (p0 : Int) (p1 : Int) {fs : List Value} (ho : h o = some (pO 0 fs)) {d' mc' ms' : Nat} {t res : Int} {P F : AL2 → Prop}  (hC : Ct Γ A (Rep2 Γ A K) l yX1_setSeats (ws_ yX1_setSeats cX1_setSeats 4 (some .int)) d' mc' ms' [.ref o, IV p0, IV p1] h (qI (fun r h' => t = 0 ∧ r = res ∧ P h')) (fun E h' => xE ["java/lang/IndexOutOfBoundsException", "java/lang/IllegalArgumentException"] t E ∧ F h')) : Ct Γ (AO A ou) (RepO Γ A K ou) l yX0_setSeats (wsW_ yX0_setSeats cX0_setSeats 5 (some .int) [(0, 10, 13, 13), (0, 10, 17, 15)]) (d' + 1) mc' ms' [.ref o, IV p0, IV p1, .ref ou] (h, w) (hE t (iI res).toInt P F) X0 := by
  refine Ct.ofJH (own := RX0) (nm := "setSeats") (lo := [some (.ref o), some (IV p0), some (IV p1), some (.ref ou), none]) pn_X0 rfl rfl (List.forall_mem_cons.mpr ⟨rfl, (List.forall_mem_cons.mpr ⟨rfl, (List.forall_mem_cons.mpr ⟨rfl, (List.forall_mem_cons.mpr ⟨rfl, (fun _ h => nomatch h)⟩)⟩)⟩)⟩) (Nat.le_of_ble_eq_true rfl) rfl ?_
  have hQ : ∀ (r : Int) (x' : LSt), (r = t ∧ (t = 0 → x'.2 = (iI res).toInt ∧ P x'.1) ∧ (t ≠ 0 → F x'.1)) → (hE t (iI res).toInt P F) (some (IV r)) x' := fun r x' h => ⟨r, rfl, h⟩
  generalize (hE t (iI res).toInt P F) = QP at hQ ⊢
  refine j_aload_n (pc := 0) dX0_setSeats_0 rfl ?_
  refine j_iconst (pc := 1) dX0_setSeats_1 rfl ?_
  refine j_aload_n (pc := 2) dX0_setSeats_2 rfl ?_
  refine j_iload_n (pc := 3) dX0_setSeats_3 rfl ?_
  refine j_iload_n (pc := 4) dX0_setSeats_4 rfl ?_
  refine j_room (cl' := 0 + mc') (sl' := 0 + ms') (by omega) (by omega) ?_
  refine j_callVc (pc := 5) (As := [IV p0, IV p1]) (rest := [IV 0, .ref ou]) (hC.toO (w := w) hou) (lw_V q546 q547 q548 q44 q549) rfl md_yX1_setSeats (RC.ofW (x := (h, w)) ho rfl) (Nat.le_refl _) (by decide) rfl (Nat.le_of_ble_eq_true rfl) dX0_setSeats_5 (fun E x' hx => ?_) (fun v x' hq => ?_)
  · obtain ⟨hx, hF⟩ := hx
    rcases xE2 hx with ⟨ht, rfl⟩ | ⟨ht, rfl⟩
    · refine ⟨[], ⟨0, 10, 13, 13⟩, [⟨0, 10, 17, 15⟩], _, rfl, (fun _ h => nomatch h), rfl, by decide, q288, fun s H h => (hnx s H h).1, fun q => ?_⟩
      refine j_astore (pc := 13) dX0_setSeats_13 (by decide) (lo' := [some (.ref o), some (IV p0), some (IV p1), some (.ref ou), some (.ref q)]) rfl ?_
      refine j_iconst (pc := 15) dX0_setSeats_15 rfl ?_
      exact j_iret (pc := 16) rfl (hQ _ _ ⟨by omega, fun z => by omega, fun _ => hF⟩) dX0_setSeats_16
    · refine ⟨[⟨0, 10, 13, 13⟩], ⟨0, 10, 17, 15⟩, [], _, rfl, (List.forall_mem_cons.mpr ⟨Or.inr ⟨by decide, _, q288, fun s H h => (hnx s H h).2.2.2.1⟩, (fun _ h => nomatch h)⟩), rfl, by decide, q365, fun s H h => (hnx s H h).2.1, fun q => ?_⟩
      refine j_astore (pc := 17) dX0_setSeats_17 (by decide) (lo' := [some (.ref o), some (IV p0), some (IV p1), some (.ref ou), some (.ref q)]) rfl ?_
      refine j_iconst (pc := 19) dX0_setSeats_19 rfl ?_
      exact j_iret (pc := 20) rfl (hQ _ _ ⟨by omega, fun z => by omega, fun _ => hF⟩) dX0_setSeats_20
  · obtain ⟨r, rfl, ht, hr, hP⟩ := hq
    rw [IVw r]
    refine j_i2l (pc := 8) dX0_setSeats_8 (rrI _) ?_
    refine j_lastO (pc := 9) (v := (iI r).toInt) rfl dX0_setSeats_9 ?_ hou
    refine j_goto (pc := 10) (tgt := 21) dX0_setSeats_10 (by decide) ?_
    refine j_iconst (pc := 21) dX0_setSeats_21 rfl ?_
    exact j_iret (pc := 22) rfl (hQ _ _ ⟨by omega, fun _ => ⟨by show (iI r).toInt = (iI res).toInt; rw [hr], hP⟩, fun z => absurd ht z⟩) dX0_setSeats_22

theorem md_yX1_person : MD yX1_person 2 := by decide +kernel
set_option maxHeartbeats 4000000 in
theorem h_person {Γ : GG} {A : Nat → Prop} {K : KK} {l : Launch} {ou : Nat} (hou : ¬ A ou) (hnx : NX Γ) (h : AL2) (w : Int) (o : Nat) (p0 : Int) (p1 : Int) {fs : List Value} (ho : h o = some (pO 0 fs)) {d' mc' ms' : Nat} {t res : Int} {P F : AL2 → Prop}  (hC : Ct Γ A (Rep2 Γ A K) l yX1_person (ws_ yX1_person cX1_person 3 (some .int)) d' mc' ms' [.ref o, IV p0, IV p1] h (qI (fun r h' => t = 0 ∧ r = res ∧ P h')) (fun E h' => xE ["java/lang/IndexOutOfBoundsException", "java/lang/IllegalArgumentException", "java/lang/IllegalStateException"] t E ∧ F h')) : Ct Γ (AO A ou) (RepO Γ A K ou) l yX0_person (wsW_ yX0_person cX0_person 5 (some .int) [(0, 10, 13, 13), (0, 10, 17, 15), (0, 10, 21, 24)]) (d' + 1) mc' ms' [.ref o, IV p0, IV p1, .ref ou] (h, w) (hE t (iI res).toInt P F) X0 := by
  refine Ct.ofJH (own := RX0) (nm := "person") (lo := [some (.ref o), some (IV p0), some (IV p1), some (.ref ou), none]) pn_X0 rfl rfl (List.forall_mem_cons.mpr ⟨rfl, (List.forall_mem_cons.mpr ⟨rfl, (List.forall_mem_cons.mpr ⟨rfl, (List.forall_mem_cons.mpr ⟨rfl, (fun _ h => nomatch h)⟩)⟩)⟩)⟩) (Nat.le_of_ble_eq_true rfl) rfl ?_
  have hQ : ∀ (r : Int) (x' : LSt), (r = t ∧ (t = 0 → x'.2 = (iI res).toInt ∧ P x'.1) ∧ (t ≠ 0 → F x'.1)) → (hE t (iI res).toInt P F) (some (IV r)) x' := fun r x' h => ⟨r, rfl, h⟩
  generalize (hE t (iI res).toInt P F) = QP at hQ ⊢
  refine j_aload_n (pc := 0) dX0_person_0 rfl ?_
  refine j_iconst (pc := 1) dX0_person_1 rfl ?_
  refine j_aload_n (pc := 2) dX0_person_2 rfl ?_
  refine j_iload_n (pc := 3) dX0_person_3 rfl ?_
  refine j_iload_n (pc := 4) dX0_person_4 rfl ?_
  refine j_room (cl' := 0 + mc') (sl' := 0 + ms') (by omega) (by omega) ?_
  refine j_callVc (pc := 5) (As := [IV p0, IV p1]) (rest := [IV 0, .ref ou]) (hC.toO (w := w) hou) (lw_V q555 q556 q557 q44 q558) rfl md_yX1_person (RC.ofW (x := (h, w)) ho rfl) (Nat.le_refl _) (by decide) rfl (Nat.le_of_ble_eq_true rfl) dX0_person_5 (fun E x' hx => ?_) (fun v x' hq => ?_)
  · obtain ⟨hx, hF⟩ := hx
    rcases xE3 hx with ⟨ht, rfl⟩ | ⟨ht, rfl⟩ | ⟨ht, rfl⟩
    · refine ⟨[], ⟨0, 10, 13, 13⟩, [⟨0, 10, 17, 15⟩, ⟨0, 10, 21, 24⟩], _, rfl, (fun _ h => nomatch h), rfl, by decide, q288, fun s H h => (hnx s H h).1, fun q => ?_⟩
      refine j_astore (pc := 13) dX0_person_13 (by decide) (lo' := [some (.ref o), some (IV p0), some (IV p1), some (.ref ou), some (.ref q)]) rfl ?_
      refine j_iconst (pc := 15) dX0_person_15 rfl ?_
      exact j_iret (pc := 16) rfl (hQ _ _ ⟨by omega, fun z => by omega, fun _ => hF⟩) dX0_person_16
    · refine ⟨[⟨0, 10, 13, 13⟩], ⟨0, 10, 17, 15⟩, [⟨0, 10, 21, 24⟩], _, rfl, (List.forall_mem_cons.mpr ⟨Or.inr ⟨by decide, _, q288, fun s H h => (hnx s H h).2.2.2.1⟩, (fun _ h => nomatch h)⟩), rfl, by decide, q365, fun s H h => (hnx s H h).2.1, fun q => ?_⟩
      refine j_astore (pc := 17) dX0_person_17 (by decide) (lo' := [some (.ref o), some (IV p0), some (IV p1), some (.ref ou), some (.ref q)]) rfl ?_
      refine j_iconst (pc := 19) dX0_person_19 rfl ?_
      exact j_iret (pc := 20) rfl (hQ _ _ ⟨by omega, fun z => by omega, fun _ => hF⟩) dX0_person_20
    · refine ⟨[⟨0, 10, 13, 13⟩, ⟨0, 10, 17, 15⟩], ⟨0, 10, 21, 24⟩, [], _, rfl, (List.forall_mem_cons.mpr ⟨Or.inr ⟨by decide, _, q288, fun s H h => (hnx s H h).2.2.2.2.1⟩, (List.forall_mem_cons.mpr ⟨Or.inr ⟨by decide, _, q365, fun s H h => (hnx s H h).2.2.2.2.2⟩, (fun _ h => nomatch h)⟩)⟩), rfl, by decide, q435, fun s H h => (hnx s H h).2.2.1, fun q => ?_⟩
      refine j_astore (pc := 21) dX0_person_21 (by decide) (lo' := [some (.ref o), some (IV p0), some (IV p1), some (.ref ou), some (.ref q)]) rfl ?_
      refine j_iconst (pc := 23) dX0_person_23 rfl ?_
      exact j_iret (pc := 24) rfl (hQ _ _ ⟨by omega, fun z => by omega, fun _ => hF⟩) dX0_person_24
  · obtain ⟨r, rfl, ht, hr, hP⟩ := hq
    rw [IVw r]
    refine j_i2l (pc := 8) dX0_person_8 (rrI _) ?_
    refine j_lastO (pc := 9) (v := (iI r).toInt) rfl dX0_person_9 ?_ hou
    refine j_goto (pc := 10) (tgt := 25) dX0_person_10 (by decide) ?_
    refine j_iconst (pc := 25) dX0_person_25 rfl ?_
    exact j_iret (pc := 26) rfl (hQ _ _ ⟨by omega, fun _ => ⟨by show (iI r).toInt = (iI res).toInt; rw [hr], hP⟩, fun z => absurd ht z⟩) dX0_person_26

theorem md_yX1_move : MD yX1_move 2 := by decide +kernel
set_option maxHeartbeats 4000000 in
theorem h_move {Γ : GG} {A : Nat → Prop} {K : KK} {l : Launch} {ou : Nat} (hou : ¬ A ou) (hnx : NX Γ) (h : AL2) (w : Int) (o : Nat) (p0 : Int) (p1 : Int) {fs : List Value} (ho : h o = some (pO 0 fs)) {d' mc' ms' : Nat} {t res : Int} {P F : AL2 → Prop}  (hC : Ct Γ A (Rep2 Γ A K) l yX1_move (ws_ yX1_move cX1_move 5 (some .int)) d' mc' ms' [.ref o, IV p0, IV p1] h (qI (fun r h' => t = 0 ∧ r = res ∧ P h')) (fun E h' => xE ["java/lang/IndexOutOfBoundsException", "java/lang/IllegalStateException"] t E ∧ F h')) : Ct Γ (AO A ou) (RepO Γ A K ou) l yX0_move (wsW_ yX0_move cX0_move 5 (some .int) [(0, 10, 13, 13), (0, 10, 17, 24)]) (d' + 1) mc' ms' [.ref o, IV p0, IV p1, .ref ou] (h, w) (hE t (iI res).toInt P F) X0 := by
  refine Ct.ofJH (own := RX0) (nm := "move") (lo := [some (.ref o), some (IV p0), some (IV p1), some (.ref ou), none]) pn_X0 rfl rfl (List.forall_mem_cons.mpr ⟨rfl, (List.forall_mem_cons.mpr ⟨rfl, (List.forall_mem_cons.mpr ⟨rfl, (List.forall_mem_cons.mpr ⟨rfl, (fun _ h => nomatch h)⟩)⟩)⟩)⟩) (Nat.le_of_ble_eq_true rfl) rfl ?_
  have hQ : ∀ (r : Int) (x' : LSt), (r = t ∧ (t = 0 → x'.2 = (iI res).toInt ∧ P x'.1) ∧ (t ≠ 0 → F x'.1)) → (hE t (iI res).toInt P F) (some (IV r)) x' := fun r x' h => ⟨r, rfl, h⟩
  generalize (hE t (iI res).toInt P F) = QP at hQ ⊢
  refine j_aload_n (pc := 0) dX0_move_0 rfl ?_
  refine j_iconst (pc := 1) dX0_move_1 rfl ?_
  refine j_aload_n (pc := 2) dX0_move_2 rfl ?_
  refine j_iload_n (pc := 3) dX0_move_3 rfl ?_
  refine j_iload_n (pc := 4) dX0_move_4 rfl ?_
  refine j_room (cl' := 0 + mc') (sl' := 0 + ms') (by omega) (by omega) ?_
  refine j_callVc (pc := 5) (As := [IV p0, IV p1]) (rest := [IV 0, .ref ou]) (hC.toO (w := w) hou) (lw_V q610 q611 q612 q44 q613) rfl md_yX1_move (RC.ofW (x := (h, w)) ho rfl) (Nat.le_refl _) (by decide) rfl (Nat.le_of_ble_eq_true rfl) dX0_move_5 (fun E x' hx => ?_) (fun v x' hq => ?_)
  · obtain ⟨hx, hF⟩ := hx
    rcases xE2 hx with ⟨ht, rfl⟩ | ⟨ht, rfl⟩
    · refine ⟨[], ⟨0, 10, 13, 13⟩, [⟨0, 10, 17, 24⟩], _, rfl, (fun _ h => nomatch h), rfl, by decide, q288, fun s H h => (hnx s H h).1, fun q => ?_⟩
      refine j_astore (pc := 13) dX0_move_13 (by decide) (lo' := [some (.ref o), some (IV p0), some (IV p1), some (.ref ou), some (.ref q)]) rfl ?_
      refine j_iconst (pc := 15) dX0_move_15 rfl ?_
      exact j_iret (pc := 16) rfl (hQ _ _ ⟨by omega, fun z => by omega, fun _ => hF⟩) dX0_move_16
    · refine ⟨[⟨0, 10, 13, 13⟩], ⟨0, 10, 17, 24⟩, [], _, rfl, (List.forall_mem_cons.mpr ⟨Or.inr ⟨by decide, _, q288, fun s H h => (hnx s H h).2.2.2.2.1⟩, (fun _ h => nomatch h)⟩), rfl, by decide, q435, fun s H h => (hnx s H h).2.2.1, fun q => ?_⟩
      refine j_astore (pc := 17) dX0_move_17 (by decide) (lo' := [some (.ref o), some (IV p0), some (IV p1), some (.ref ou), some (.ref q)]) rfl ?_
      refine j_iconst (pc := 19) dX0_move_19 rfl ?_
      exact j_iret (pc := 20) rfl (hQ _ _ ⟨by omega, fun z => by omega, fun _ => hF⟩) dX0_move_20
  · obtain ⟨r, rfl, ht, hr, hP⟩ := hq
    rw [IVw r]
    refine j_i2l (pc := 8) dX0_move_8 (rrI _) ?_
    refine j_lastO (pc := 9) (v := (iI r).toInt) rfl dX0_move_9 ?_ hou
    refine j_goto (pc := 10) (tgt := 21) dX0_move_10 (by decide) ?_
    refine j_iconst (pc := 21) dX0_move_21 rfl ?_
    exact j_iret (pc := 22) rfl (hQ _ _ ⟨by omega, fun _ => ⟨by show (iI r).toInt = (iI res).toInt; rw [hr], hP⟩, fun z => absurd ht z⟩) dX0_move_22

theorem md_yX1_die : MD yX1_die 1 := by decide +kernel
set_option maxHeartbeats 4000000 in
theorem h_die {Γ : GG} {A : Nat → Prop} {K : KK} {l : Launch} {ou : Nat} (hou : ¬ A ou) (hnx : NX Γ) (h : AL2) (w : Int) (o : Nat) (p0 : Int) {fs : List Value} (ho : h o = some (pO 0 fs)) {d' mc' ms' : Nat} {t res : Int} {P F : AL2 → Prop} (hres : res = 0 ∨ res = 1) (hC : Ct Γ A (Rep2 Γ A K) l yX1_die (ws_ yX1_die cX1_die 3 (some .boolean)) d' mc' ms' [.ref o, IV p0] h (qI (fun r h' => t = 0 ∧ r = res ∧ P h')) (fun E h' => xE ["java/lang/IndexOutOfBoundsException", "java/lang/IllegalStateException"] t E ∧ F h')) : Ct Γ (AO A ou) (RepO Γ A K ou) l yX0_die (wsW_ yX0_die cX0_die 4 (some .int) [(0, 16, 19, 13), (0, 16, 22, 24)]) (d' + 1) mc' ms' [.ref o, IV p0, .ref ou] (h, w) (hE t (iI res).toInt P F) X0 := by
  refine Ct.ofJH (own := RX0) (nm := "die") (lo := [some (.ref o), some (IV p0), some (.ref ou), none]) pn_X0 rfl rfl (List.forall_mem_cons.mpr ⟨rfl, (List.forall_mem_cons.mpr ⟨rfl, (List.forall_mem_cons.mpr ⟨rfl, (fun _ h => nomatch h)⟩)⟩)⟩) (Nat.le_of_ble_eq_true rfl) rfl ?_
  have hQ : ∀ (r : Int) (x' : LSt), (r = t ∧ (t = 0 → x'.2 = (iI res).toInt ∧ P x'.1) ∧ (t ≠ 0 → F x'.1)) → (hE t (iI res).toInt P F) (some (IV r)) x' := fun r x' h => ⟨r, rfl, h⟩
  generalize (hE t (iI res).toInt P F) = QP at hQ ⊢
  refine j_aload_n (pc := 0) dX0_die_0 rfl ?_
  refine j_iconst (pc := 1) dX0_die_1 rfl ?_
  refine j_aload_n (pc := 2) dX0_die_2 rfl ?_
  refine j_iload_n (pc := 3) dX0_die_3 rfl ?_
  refine j_room (cl' := 0 + mc') (sl' := 0 + ms') (by omega) (by omega) ?_
  refine j_callVc (pc := 4) (As := [IV p0]) (rest := [IV 0, .ref ou]) (hC.toO (w := w) hou) (lw_V q630 q631 q632 q44 q633) rfl md_yX1_die (RC.ofW (x := (h, w)) ho rfl) (Nat.le_refl _) (by decide) rfl (Nat.le_of_ble_eq_true rfl) dX0_die_4 (fun E x' hx => ?_) (fun v x' hq => ?_)
  · obtain ⟨hx, hF⟩ := hx
    rcases xE2 hx with ⟨ht, rfl⟩ | ⟨ht, rfl⟩
    · refine ⟨[], ⟨0, 16, 19, 13⟩, [⟨0, 16, 22, 24⟩], _, rfl, (fun _ h => nomatch h), rfl, by decide, q288, fun s H h => (hnx s H h).1, fun q => ?_⟩
      refine j_astore_n (pc := 19) dX0_die_19 (by decide) (lo' := [some (.ref o), some (IV p0), some (.ref ou), some (.ref q)]) rfl ?_
      refine j_iconst (pc := 20) dX0_die_20 rfl ?_
      exact j_iret (pc := 21) rfl (hQ _ _ ⟨by omega, fun z => by omega, fun _ => hF⟩) dX0_die_21
    · refine ⟨[⟨0, 16, 19, 13⟩], ⟨0, 16, 22, 24⟩, [], _, rfl, (List.forall_mem_cons.mpr ⟨Or.inr ⟨by decide, _, q288, fun s H h => (hnx s H h).2.2.2.2.1⟩, (fun _ h => nomatch h)⟩), rfl, by decide, q435, fun s H h => (hnx s H h).2.2.1, fun q => ?_⟩
      refine j_astore_n (pc := 22) dX0_die_22 (by decide) (lo' := [some (.ref o), some (IV p0), some (.ref ou), some (.ref q)]) rfl ?_
      refine j_iconst (pc := 23) dX0_die_23 rfl ?_
      exact j_iret (pc := 24) rfl (hQ _ _ ⟨by omega, fun z => by omega, fun _ => hF⟩) dX0_die_24
  · obtain ⟨r, rfl, ht, hr, hP⟩ := hq
    refine j_if_eq (pc := 7) (tgt := 14) dX0_die_7 (by decide) (by omega) (fun c => ?_) (fun c => ?_)
    · refine j_lconst (pc := 14) (v := Int64.ofInt 0) dX0_die_14 rfl ?_
      refine j_lastO (pc := 15) (v := 0) rfl dX0_die_15 ?_ hou
      refine j_goto (pc := 16) (tgt := 25) dX0_die_16 (by decide) ?_
      refine j_iconst (pc := 25) dX0_die_25 rfl ?_
      exact j_iret (pc := 26) rfl (hQ _ _ ⟨by omega, fun _ => ⟨by show 0 = (iI res).toInt; rw [show res = 0 by omega]; rfl, hP⟩, fun z => absurd ht z⟩) dX0_die_26
    · refine j_lconst (pc := 10) (v := Int64.ofInt 1) dX0_die_10 rfl ?_
      refine j_goto (pc := 11) (tgt := 15) dX0_die_11 (by decide) ?_
      refine j_lastO (pc := 15) (v := 1) rfl dX0_die_15 ?_ hou
      refine j_goto (pc := 16) (tgt := 25) dX0_die_16 (by decide) ?_
      refine j_iconst (pc := 25) dX0_die_25 rfl ?_
      exact j_iret (pc := 26) rfl (hQ _ _ ⟨by omega, fun _ => ⟨by show 1 = (iI res).toInt; rw [show res = 1 by omega]; rfl, hP⟩, fun z => absurd ht z⟩) dX0_die_26

theorem md_yX1_dwells : MD yX1_dwells 2 := by decide +kernel
set_option maxHeartbeats 4000000 in
theorem h_dwells {Γ : GG} {A : Nat → Prop} {K : KK} {l : Launch} {ou : Nat} (hou : ¬ A ou) (hnx : NX Γ) (h : AL2) (w : Int) (o : Nat) (p0 : Int) (p1 : Int) {fs : List Value} (ho : h o = some (pO 0 fs)) {d' mc' ms' : Nat} {t res : Int} {P F : AL2 → Prop}  (hC : Ct Γ A (Rep2 Γ A K) l yX1_dwells (ws_ yX1_dwells cX1_dwells 4 (some .int)) d' mc' ms' [.ref o, IV p0, IV p1] h (qI (fun r h' => t = 0 ∧ r = res ∧ P h')) (fun E h' => xE ["java/lang/IndexOutOfBoundsException", "java/lang/IllegalArgumentException"] t E ∧ F h')) : Ct Γ (AO A ou) (RepO Γ A K ou) l yX0_dwells (wsW_ yX0_dwells cX0_dwells 5 (some .int) [(0, 10, 13, 13), (0, 10, 17, 15)]) (d' + 1) mc' ms' [.ref o, IV p0, IV p1, .ref ou] (h, w) (hE t (iI res).toInt P F) X0 := by
  refine Ct.ofJH (own := RX0) (nm := "dwells") (lo := [some (.ref o), some (IV p0), some (IV p1), some (.ref ou), none]) pn_X0 rfl rfl (List.forall_mem_cons.mpr ⟨rfl, (List.forall_mem_cons.mpr ⟨rfl, (List.forall_mem_cons.mpr ⟨rfl, (List.forall_mem_cons.mpr ⟨rfl, (fun _ h => nomatch h)⟩)⟩)⟩)⟩) (Nat.le_of_ble_eq_true rfl) rfl ?_
  have hQ : ∀ (r : Int) (x' : LSt), (r = t ∧ (t = 0 → x'.2 = (iI res).toInt ∧ P x'.1) ∧ (t ≠ 0 → F x'.1)) → (hE t (iI res).toInt P F) (some (IV r)) x' := fun r x' h => ⟨r, rfl, h⟩
  generalize (hE t (iI res).toInt P F) = QP at hQ ⊢
  refine j_aload_n (pc := 0) dX0_dwells_0 rfl ?_
  refine j_iconst (pc := 1) dX0_dwells_1 rfl ?_
  refine j_aload_n (pc := 2) dX0_dwells_2 rfl ?_
  refine j_iload_n (pc := 3) dX0_dwells_3 rfl ?_
  refine j_iload_n (pc := 4) dX0_dwells_4 rfl ?_
  refine j_room (cl' := 0 + mc') (sl' := 0 + ms') (by omega) (by omega) ?_
  refine j_callVc (pc := 5) (As := [IV p0, IV p1]) (rest := [IV 0, .ref ou]) (hC.toO (w := w) hou) (lw_V q680 q681 q682 q44 q683) rfl md_yX1_dwells (RC.ofW (x := (h, w)) ho rfl) (Nat.le_refl _) (by decide) rfl (Nat.le_of_ble_eq_true rfl) dX0_dwells_5 (fun E x' hx => ?_) (fun v x' hq => ?_)
  · obtain ⟨hx, hF⟩ := hx
    rcases xE2 hx with ⟨ht, rfl⟩ | ⟨ht, rfl⟩
    · refine ⟨[], ⟨0, 10, 13, 13⟩, [⟨0, 10, 17, 15⟩], _, rfl, (fun _ h => nomatch h), rfl, by decide, q288, fun s H h => (hnx s H h).1, fun q => ?_⟩
      refine j_astore (pc := 13) dX0_dwells_13 (by decide) (lo' := [some (.ref o), some (IV p0), some (IV p1), some (.ref ou), some (.ref q)]) rfl ?_
      refine j_iconst (pc := 15) dX0_dwells_15 rfl ?_
      exact j_iret (pc := 16) rfl (hQ _ _ ⟨by omega, fun z => by omega, fun _ => hF⟩) dX0_dwells_16
    · refine ⟨[⟨0, 10, 13, 13⟩], ⟨0, 10, 17, 15⟩, [], _, rfl, (List.forall_mem_cons.mpr ⟨Or.inr ⟨by decide, _, q288, fun s H h => (hnx s H h).2.2.2.1⟩, (fun _ h => nomatch h)⟩), rfl, by decide, q365, fun s H h => (hnx s H h).2.1, fun q => ?_⟩
      refine j_astore (pc := 17) dX0_dwells_17 (by decide) (lo' := [some (.ref o), some (IV p0), some (IV p1), some (.ref ou), some (.ref q)]) rfl ?_
      refine j_iconst (pc := 19) dX0_dwells_19 rfl ?_
      exact j_iret (pc := 20) rfl (hQ _ _ ⟨by omega, fun z => by omega, fun _ => hF⟩) dX0_dwells_20
  · obtain ⟨r, rfl, ht, hr, hP⟩ := hq
    rw [IVw r]
    refine j_i2l (pc := 8) dX0_dwells_8 (rrI _) ?_
    refine j_lastO (pc := 9) (v := (iI r).toInt) rfl dX0_dwells_9 ?_ hou
    refine j_goto (pc := 10) (tgt := 21) dX0_dwells_10 (by decide) ?_
    refine j_iconst (pc := 21) dX0_dwells_21 rfl ?_
    exact j_iret (pc := 22) rfl (hQ _ _ ⟨by omega, fun _ => ⟨by show (iI r).toInt = (iI res).toInt; rw [hr], hP⟩, fun z => absurd ht z⟩) dX0_dwells_22

theorem md_yX1_call : MD yX1_call 3 := by decide +kernel
set_option maxHeartbeats 4000000 in
theorem h_call {Γ : GG} {A : Nat → Prop} {K : KK} {l : Launch} {ou : Nat} (hou : ¬ A ou) (hnx : NX Γ) (h : AL2) (w : Int) (o : Nat) (p0 : Int) (p1 : Int) (p2 : Int) {fs : List Value} (ho : h o = some (pO 0 fs)) {d' mc' ms' : Nat} {t res : Int} {P F : AL2 → Prop}  (hC : Ct Γ A (Rep2 Γ A K) l yX1_call (ws_ yX1_call cX1_call 4 (some .int)) d' mc' ms' [.ref o, IV p0, IV p1, IV p2] h (qI (fun r h' => t = 0 ∧ r = res ∧ P h')) (fun E h' => xE ["java/lang/IllegalArgumentException", "java/lang/IllegalStateException"] t E ∧ F h')) : Ct Γ (AO A ou) (RepO Γ A K ou) l yX0_call (wsW_ yX0_call cX0_call 6 (some .int) [(0, 12, 15, 15), (0, 12, 19, 24)]) (d' + 1) mc' ms' [.ref o, IV p0, IV p1, IV p2, .ref ou] (h, w) (hE t (iI res).toInt P F) X0 := by
  refine Ct.ofJH (own := RX0) (nm := "call") (lo := [some (.ref o), some (IV p0), some (IV p1), some (IV p2), some (.ref ou), none]) pn_X0 rfl rfl (List.forall_mem_cons.mpr ⟨rfl, (List.forall_mem_cons.mpr ⟨rfl, (List.forall_mem_cons.mpr ⟨rfl, (List.forall_mem_cons.mpr ⟨rfl, (List.forall_mem_cons.mpr ⟨rfl, (fun _ h => nomatch h)⟩)⟩)⟩)⟩)⟩) (Nat.le_of_ble_eq_true rfl) rfl ?_
  have hQ : ∀ (r : Int) (x' : LSt), (r = t ∧ (t = 0 → x'.2 = (iI res).toInt ∧ P x'.1) ∧ (t ≠ 0 → F x'.1)) → (hE t (iI res).toInt P F) (some (IV r)) x' := fun r x' h => ⟨r, rfl, h⟩
  generalize (hE t (iI res).toInt P F) = QP at hQ ⊢
  refine j_aload (pc := 0) dX0_call_0 rfl ?_
  refine j_iconst (pc := 2) dX0_call_2 rfl ?_
  refine j_aload_n (pc := 3) dX0_call_3 rfl ?_
  refine j_iload_n (pc := 4) dX0_call_4 rfl ?_
  refine j_iload_n (pc := 5) dX0_call_5 rfl ?_
  refine j_iload_n (pc := 6) dX0_call_6 rfl ?_
  refine j_room (cl' := 0 + mc') (sl' := 0 + ms') (by omega) (by omega) ?_
  refine j_callVc (pc := 7) (As := [IV p0, IV p1, IV p2]) (rest := [IV 0, .ref ou]) (hC.toO (w := w) hou) (lw_V q691 q692 q693 q44 q694) rfl md_yX1_call (RC.ofW (x := (h, w)) ho rfl) (Nat.le_refl _) (by decide) rfl (Nat.le_of_ble_eq_true rfl) dX0_call_7 (fun E x' hx => ?_) (fun v x' hq => ?_)
  · obtain ⟨hx, hF⟩ := hx
    rcases xE2 hx with ⟨ht, rfl⟩ | ⟨ht, rfl⟩
    · refine ⟨[], ⟨0, 12, 15, 15⟩, [⟨0, 12, 19, 24⟩], _, rfl, (fun _ h => nomatch h), rfl, by decide, q365, fun s H h => (hnx s H h).2.1, fun q => ?_⟩
      refine j_astore (pc := 15) dX0_call_15 (by decide) (lo' := [some (.ref o), some (IV p0), some (IV p1), some (IV p2), some (.ref ou), some (.ref q)]) rfl ?_
      refine j_iconst (pc := 17) dX0_call_17 rfl ?_
      exact j_iret (pc := 18) rfl (hQ _ _ ⟨by omega, fun z => by omega, fun _ => hF⟩) dX0_call_18
    · refine ⟨[⟨0, 12, 15, 15⟩], ⟨0, 12, 19, 24⟩, [], _, rfl, (List.forall_mem_cons.mpr ⟨Or.inr ⟨by decide, _, q365, fun s H h => (hnx s H h).2.2.2.2.2⟩, (fun _ h => nomatch h)⟩), rfl, by decide, q435, fun s H h => (hnx s H h).2.2.1, fun q => ?_⟩
      refine j_astore (pc := 19) dX0_call_19 (by decide) (lo' := [some (.ref o), some (IV p0), some (IV p1), some (IV p2), some (.ref ou), some (.ref q)]) rfl ?_
      refine j_iconst (pc := 21) dX0_call_21 rfl ?_
      exact j_iret (pc := 22) rfl (hQ _ _ ⟨by omega, fun z => by omega, fun _ => hF⟩) dX0_call_22
  · obtain ⟨r, rfl, ht, hr, hP⟩ := hq
    rw [IVw r]
    refine j_i2l (pc := 10) dX0_call_10 (rrI _) ?_
    refine j_lastO (pc := 11) (v := (iI r).toInt) rfl dX0_call_11 ?_ hou
    refine j_goto (pc := 12) (tgt := 23) dX0_call_12 (by decide) ?_
    refine j_iconst (pc := 23) dX0_call_23 rfl ?_
    exact j_iret (pc := 24) rfl (hQ _ _ ⟨by omega, fun _ => ⟨by show (iI r).toInt = (iI res).toInt; rw [hr], hP⟩, fun z => absurd ht z⟩) dX0_call_24

theorem md_yX1_seed : MD yX1_seed 2 := by decide +kernel
set_option maxHeartbeats 4000000 in
theorem h_seed {Γ : GG} {A : Nat → Prop} {K : KK} {l : Launch} {ou : Nat} (hou : ¬ A ou) (hnx : NX Γ) (h : AL2) (w : Int) (o : Nat) (p0 : Int) (p1 : Int) {fs : List Value} (ho : h o = some (pO 0 fs)) {d' mc' ms' : Nat} {t res : Int} {P F : AL2 → Prop}  (hC : Ct Γ A (Rep2 Γ A K) l yX1_seed (ws_ yX1_seed cX1_seed 4 (some .int)) d' mc' ms' [.ref o, IV p0, IV p1] h (qI (fun r h' => t = 0 ∧ r = res ∧ P h')) (fun E h' => xE ["java/lang/IndexOutOfBoundsException", "java/lang/IllegalArgumentException", "java/lang/IllegalStateException"] t E ∧ F h')) : Ct Γ (AO A ou) (RepO Γ A K ou) l yX0_seed (wsW_ yX0_seed cX0_seed 5 (some .int) [(0, 10, 13, 13), (0, 10, 17, 15), (0, 10, 21, 24)]) (d' + 1) mc' ms' [.ref o, IV p0, IV p1, .ref ou] (h, w) (hE t (iI res).toInt P F) X0 := by
  refine Ct.ofJH (own := RX0) (nm := "seed") (lo := [some (.ref o), some (IV p0), some (IV p1), some (.ref ou), none]) pn_X0 rfl rfl (List.forall_mem_cons.mpr ⟨rfl, (List.forall_mem_cons.mpr ⟨rfl, (List.forall_mem_cons.mpr ⟨rfl, (List.forall_mem_cons.mpr ⟨rfl, (fun _ h => nomatch h)⟩)⟩)⟩)⟩) (Nat.le_of_ble_eq_true rfl) rfl ?_
  have hQ : ∀ (r : Int) (x' : LSt), (r = t ∧ (t = 0 → x'.2 = (iI res).toInt ∧ P x'.1) ∧ (t ≠ 0 → F x'.1)) → (hE t (iI res).toInt P F) (some (IV r)) x' := fun r x' h => ⟨r, rfl, h⟩
  generalize (hE t (iI res).toInt P F) = QP at hQ ⊢
  refine j_aload_n (pc := 0) dX0_seed_0 rfl ?_
  refine j_iconst (pc := 1) dX0_seed_1 rfl ?_
  refine j_aload_n (pc := 2) dX0_seed_2 rfl ?_
  refine j_iload_n (pc := 3) dX0_seed_3 rfl ?_
  refine j_iload_n (pc := 4) dX0_seed_4 rfl ?_
  refine j_room (cl' := 0 + mc') (sl' := 0 + ms') (by omega) (by omega) ?_
  refine j_callVc (pc := 5) (As := [IV p0, IV p1]) (rest := [IV 0, .ref ou]) (hC.toO (w := w) hou) (lw_V q758 q759 q760 q44 q761) rfl md_yX1_seed (RC.ofW (x := (h, w)) ho rfl) (Nat.le_refl _) (by decide) rfl (Nat.le_of_ble_eq_true rfl) dX0_seed_5 (fun E x' hx => ?_) (fun v x' hq => ?_)
  · obtain ⟨hx, hF⟩ := hx
    rcases xE3 hx with ⟨ht, rfl⟩ | ⟨ht, rfl⟩ | ⟨ht, rfl⟩
    · refine ⟨[], ⟨0, 10, 13, 13⟩, [⟨0, 10, 17, 15⟩, ⟨0, 10, 21, 24⟩], _, rfl, (fun _ h => nomatch h), rfl, by decide, q288, fun s H h => (hnx s H h).1, fun q => ?_⟩
      refine j_astore (pc := 13) dX0_seed_13 (by decide) (lo' := [some (.ref o), some (IV p0), some (IV p1), some (.ref ou), some (.ref q)]) rfl ?_
      refine j_iconst (pc := 15) dX0_seed_15 rfl ?_
      exact j_iret (pc := 16) rfl (hQ _ _ ⟨by omega, fun z => by omega, fun _ => hF⟩) dX0_seed_16
    · refine ⟨[⟨0, 10, 13, 13⟩], ⟨0, 10, 17, 15⟩, [⟨0, 10, 21, 24⟩], _, rfl, (List.forall_mem_cons.mpr ⟨Or.inr ⟨by decide, _, q288, fun s H h => (hnx s H h).2.2.2.1⟩, (fun _ h => nomatch h)⟩), rfl, by decide, q365, fun s H h => (hnx s H h).2.1, fun q => ?_⟩
      refine j_astore (pc := 17) dX0_seed_17 (by decide) (lo' := [some (.ref o), some (IV p0), some (IV p1), some (.ref ou), some (.ref q)]) rfl ?_
      refine j_iconst (pc := 19) dX0_seed_19 rfl ?_
      exact j_iret (pc := 20) rfl (hQ _ _ ⟨by omega, fun z => by omega, fun _ => hF⟩) dX0_seed_20
    · refine ⟨[⟨0, 10, 13, 13⟩, ⟨0, 10, 17, 15⟩], ⟨0, 10, 21, 24⟩, [], _, rfl, (List.forall_mem_cons.mpr ⟨Or.inr ⟨by decide, _, q288, fun s H h => (hnx s H h).2.2.2.2.1⟩, (List.forall_mem_cons.mpr ⟨Or.inr ⟨by decide, _, q365, fun s H h => (hnx s H h).2.2.2.2.2⟩, (fun _ h => nomatch h)⟩)⟩), rfl, by decide, q435, fun s H h => (hnx s H h).2.2.1, fun q => ?_⟩
      refine j_astore (pc := 21) dX0_seed_21 (by decide) (lo' := [some (.ref o), some (IV p0), some (IV p1), some (.ref ou), some (.ref q)]) rfl ?_
      refine j_iconst (pc := 23) dX0_seed_23 rfl ?_
      exact j_iret (pc := 24) rfl (hQ _ _ ⟨by omega, fun z => by omega, fun _ => hF⟩) dX0_seed_24
  · obtain ⟨r, rfl, ht, hr, hP⟩ := hq
    rw [IVw r]
    refine j_i2l (pc := 8) dX0_seed_8 (rrI _) ?_
    refine j_lastO (pc := 9) (v := (iI r).toInt) rfl dX0_seed_9 ?_ hou
    refine j_goto (pc := 10) (tgt := 25) dX0_seed_10 (by decide) ?_
    refine j_iconst (pc := 25) dX0_seed_25 rfl ?_
    exact j_iret (pc := 26) rfl (hQ _ _ ⟨by omega, fun _ => ⟨by show (iI r).toInt = (iI res).toInt; rw [hr], hP⟩, fun z => absurd ht z⟩) dX0_seed_26

theorem md_yX1_advance : MD yX1_advance 1 := by decide +kernel
set_option maxHeartbeats 4000000 in
theorem h_advance {Γ : GG} {A : Nat → Prop} {K : KK} {l : Launch} {ou : Nat} (hou : ¬ A ou) (hnx : NX Γ) (h : AL2) (w : Int) (o : Nat) (p0 : Int) {fs : List Value} (ho : h o = some (pO 0 fs)) {d' mc' ms' : Nat} {t res : Int} {P F : AL2 → Prop}  (hC : Ct Γ A (Rep2 Γ A K) l yX1_advance (ws_ yX1_advance cX1_advance 3 (some .int)) d' mc' ms' [.ref o, IV p0] h (qI (fun r h' => t = 0 ∧ r = res ∧ P h')) (fun E h' => xE ["java/lang/IllegalArgumentException", "java/lang/IllegalStateException"] t E ∧ F h')) : Ct Γ (AO A ou) (RepO Γ A K ou) l yX0_advance (wsW_ yX0_advance cX0_advance 4 (some .int) [(0, 9, 12, 15), (0, 9, 15, 24)]) (d' + 1) mc' ms' [.ref o, IV p0, .ref ou] (h, w) (hE t (iI res).toInt P F) X0 := by
  refine Ct.ofJH (own := RX0) (nm := "advance") (lo := [some (.ref o), some (IV p0), some (.ref ou), none]) pn_X0 rfl rfl (List.forall_mem_cons.mpr ⟨rfl, (List.forall_mem_cons.mpr ⟨rfl, (List.forall_mem_cons.mpr ⟨rfl, (fun _ h => nomatch h)⟩)⟩)⟩) (Nat.le_of_ble_eq_true rfl) rfl ?_
  have hQ : ∀ (r : Int) (x' : LSt), (r = t ∧ (t = 0 → x'.2 = (iI res).toInt ∧ P x'.1) ∧ (t ≠ 0 → F x'.1)) → (hE t (iI res).toInt P F) (some (IV r)) x' := fun r x' h => ⟨r, rfl, h⟩
  generalize (hE t (iI res).toInt P F) = QP at hQ ⊢
  refine j_aload_n (pc := 0) dX0_advance_0 rfl ?_
  refine j_iconst (pc := 1) dX0_advance_1 rfl ?_
  refine j_aload_n (pc := 2) dX0_advance_2 rfl ?_
  refine j_iload_n (pc := 3) dX0_advance_3 rfl ?_
  refine j_room (cl' := 0 + mc') (sl' := 0 + ms') (by omega) (by omega) ?_
  refine j_callVc (pc := 4) (As := [IV p0]) (rest := [IV 0, .ref ou]) (hC.toO (w := w) hou) (lw_V q765 q766 q767 q44 q768) rfl md_yX1_advance (RC.ofW (x := (h, w)) ho rfl) (Nat.le_refl _) (by decide) rfl (Nat.le_of_ble_eq_true rfl) dX0_advance_4 (fun E x' hx => ?_) (fun v x' hq => ?_)
  · obtain ⟨hx, hF⟩ := hx
    rcases xE2 hx with ⟨ht, rfl⟩ | ⟨ht, rfl⟩
    · refine ⟨[], ⟨0, 9, 12, 15⟩, [⟨0, 9, 15, 24⟩], _, rfl, (fun _ h => nomatch h), rfl, by decide, q365, fun s H h => (hnx s H h).2.1, fun q => ?_⟩
      refine j_astore_n (pc := 12) dX0_advance_12 (by decide) (lo' := [some (.ref o), some (IV p0), some (.ref ou), some (.ref q)]) rfl ?_
      refine j_iconst (pc := 13) dX0_advance_13 rfl ?_
      exact j_iret (pc := 14) rfl (hQ _ _ ⟨by omega, fun z => by omega, fun _ => hF⟩) dX0_advance_14
    · refine ⟨[⟨0, 9, 12, 15⟩], ⟨0, 9, 15, 24⟩, [], _, rfl, (List.forall_mem_cons.mpr ⟨Or.inr ⟨by decide, _, q365, fun s H h => (hnx s H h).2.2.2.2.2⟩, (fun _ h => nomatch h)⟩), rfl, by decide, q435, fun s H h => (hnx s H h).2.2.1, fun q => ?_⟩
      refine j_astore_n (pc := 15) dX0_advance_15 (by decide) (lo' := [some (.ref o), some (IV p0), some (.ref ou), some (.ref q)]) rfl ?_
      refine j_iconst (pc := 16) dX0_advance_16 rfl ?_
      exact j_iret (pc := 17) rfl (hQ _ _ ⟨by omega, fun z => by omega, fun _ => hF⟩) dX0_advance_17
  · obtain ⟨r, rfl, ht, hr, hP⟩ := hq
    rw [IVw r]
    refine j_i2l (pc := 7) dX0_advance_7 (rrI _) ?_
    refine j_lastO (pc := 8) (v := (iI r).toInt) rfl dX0_advance_8 ?_ hou
    refine j_goto (pc := 9) (tgt := 18) dX0_advance_9 (by decide) ?_
    refine j_iconst (pc := 18) dX0_advance_18 rfl ?_
    exact j_iret (pc := 19) rfl (hQ _ _ ⟨by omega, fun _ => ⟨by show (iI r).toInt = (iI res).toInt; rw [hr], hP⟩, fun z => absurd ht z⟩) dX0_advance_19

theorem md_yX1_isOnRoll : MD yX1_isOnRoll 1 := by decide +kernel
set_option maxHeartbeats 4000000 in
theorem h_isOnRoll {Γ : GG} {A : Nat → Prop} {K : KK} {l : Launch} {ou : Nat} (hou : ¬ A ou) (hnx : NX Γ) (h : AL2) (w : Int) (o : Nat) (p0 : Int) {fs : List Value} (ho : h o = some (pO 0 fs)) {d' mc' ms' : Nat} {t res : Int} {P F : AL2 → Prop} (hres : res = 0 ∨ res = 1) (hC : Ct Γ A (Rep2 Γ A K) l yX1_isOnRoll (ws_ yX1_isOnRoll cX1_isOnRoll 2 (some .boolean)) d' mc' ms' [.ref o, IV p0] h (qI (fun r h' => t = 0 ∧ r = res ∧ P h')) (fun E h' => xE ["java/lang/IndexOutOfBoundsException"] t E ∧ F h')) : Ct Γ (AO A ou) (RepO Γ A K ou) l yX0_isOnRoll (wsW_ yX0_isOnRoll cX0_isOnRoll 4 (some .int) [(0, 16, 19, 13)]) (d' + 1) mc' ms' [.ref o, IV p0, .ref ou] (h, w) (hE t (iI res).toInt P F) X0 := by
  refine Ct.ofJH (own := RX0) (nm := "isOnRoll") (lo := [some (.ref o), some (IV p0), some (.ref ou), none]) pn_X0 rfl rfl (List.forall_mem_cons.mpr ⟨rfl, (List.forall_mem_cons.mpr ⟨rfl, (List.forall_mem_cons.mpr ⟨rfl, (fun _ h => nomatch h)⟩)⟩)⟩) (Nat.le_of_ble_eq_true rfl) rfl ?_
  have hQ : ∀ (r : Int) (x' : LSt), (r = t ∧ (t = 0 → x'.2 = (iI res).toInt ∧ P x'.1) ∧ (t ≠ 0 → F x'.1)) → (hE t (iI res).toInt P F) (some (IV r)) x' := fun r x' h => ⟨r, rfl, h⟩
  generalize (hE t (iI res).toInt P F) = QP at hQ ⊢
  refine j_aload_n (pc := 0) dX0_isOnRoll_0 rfl ?_
  refine j_iconst (pc := 1) dX0_isOnRoll_1 rfl ?_
  refine j_aload_n (pc := 2) dX0_isOnRoll_2 rfl ?_
  refine j_iload_n (pc := 3) dX0_isOnRoll_3 rfl ?_
  refine j_room (cl' := 0 + mc') (sl' := 0 + ms') (by omega) (by omega) ?_
  refine j_callVc (pc := 4) (As := [IV p0]) (rest := [IV 0, .ref ou]) (hC.toO (w := w) hou) (lw_V q844 q845 q846 q44 q847) rfl md_yX1_isOnRoll (RC.ofW (x := (h, w)) ho rfl) (Nat.le_refl _) (by decide) rfl (Nat.le_of_ble_eq_true rfl) dX0_isOnRoll_4 (fun E x' hx => ?_) (fun v x' hq => ?_)
  · obtain ⟨hx, hF⟩ := hx
    obtain ⟨ht, rfl⟩ := xE1 hx
    refine ⟨[], ⟨0, 16, 19, 13⟩, [], _, rfl, (fun _ h => nomatch h), rfl, by decide, q288, fun s H h => (hnx s H h).1, fun q => ?_⟩
    refine j_astore_n (pc := 19) dX0_isOnRoll_19 (by decide) (lo' := [some (.ref o), some (IV p0), some (.ref ou), some (.ref q)]) rfl ?_
    refine j_iconst (pc := 20) dX0_isOnRoll_20 rfl ?_
    exact j_iret (pc := 21) rfl (hQ _ _ ⟨by omega, fun z => by omega, fun _ => hF⟩) dX0_isOnRoll_21
  · obtain ⟨r, rfl, ht, hr, hP⟩ := hq
    refine j_if_eq (pc := 7) (tgt := 14) dX0_isOnRoll_7 (by decide) (by omega) (fun c => ?_) (fun c => ?_)
    · refine j_lconst (pc := 14) (v := Int64.ofInt 0) dX0_isOnRoll_14 rfl ?_
      refine j_lastO (pc := 15) (v := 0) rfl dX0_isOnRoll_15 ?_ hou
      refine j_goto (pc := 16) (tgt := 22) dX0_isOnRoll_16 (by decide) ?_
      refine j_iconst (pc := 22) dX0_isOnRoll_22 rfl ?_
      exact j_iret (pc := 23) rfl (hQ _ _ ⟨by omega, fun _ => ⟨by show 0 = (iI res).toInt; rw [show res = 0 by omega]; rfl, hP⟩, fun z => absurd ht z⟩) dX0_isOnRoll_23
    · refine j_lconst (pc := 10) (v := Int64.ofInt 1) dX0_isOnRoll_10 rfl ?_
      refine j_goto (pc := 11) (tgt := 15) dX0_isOnRoll_11 (by decide) ?_
      refine j_lastO (pc := 15) (v := 1) rfl dX0_isOnRoll_15 ?_ hou
      refine j_goto (pc := 16) (tgt := 22) dX0_isOnRoll_16 (by decide) ?_
      refine j_iconst (pc := 22) dX0_isOnRoll_22 rfl ?_
      exact j_iret (pc := 23) rfl (hQ _ _ ⟨by omega, fun _ => ⟨by show 1 = (iI res).toInt; rw [show res = 1 by omega]; rfl, hP⟩, fun z => absurd ht z⟩) dX0_isOnRoll_23

theorem md_yX1_stationOf : MD yX1_stationOf 1 := by decide +kernel
set_option maxHeartbeats 4000000 in
theorem h_stationOf {Γ : GG} {A : Nat → Prop} {K : KK} {l : Launch} {ou : Nat} (hou : ¬ A ou) (hnx : NX Γ) (h : AL2) (w : Int) (o : Nat) (p0 : Int) {fs : List Value} (ho : h o = some (pO 0 fs)) {d' mc' ms' : Nat} {t res : Int} {P F : AL2 → Prop}  (hC : Ct Γ A (Rep2 Γ A K) l yX1_stationOf (ws_ yX1_stationOf cX1_stationOf 3 (some .int)) d' mc' ms' [.ref o, IV p0] h (qI (fun r h' => t = 0 ∧ r = res ∧ P h')) (fun E h' => xE ["java/lang/IndexOutOfBoundsException"] t E ∧ F h')) : Ct Γ (AO A ou) (RepO Γ A K ou) l yX0_stationOf (wsW_ yX0_stationOf cX0_stationOf 4 (some .int) [(0, 9, 12, 13)]) (d' + 1) mc' ms' [.ref o, IV p0, .ref ou] (h, w) (hE t (iI res).toInt P F) X0 := by
  refine Ct.ofJH (own := RX0) (nm := "stationOf") (lo := [some (.ref o), some (IV p0), some (.ref ou), none]) pn_X0 rfl rfl (List.forall_mem_cons.mpr ⟨rfl, (List.forall_mem_cons.mpr ⟨rfl, (List.forall_mem_cons.mpr ⟨rfl, (fun _ h => nomatch h)⟩)⟩)⟩) (Nat.le_of_ble_eq_true rfl) rfl ?_
  have hQ : ∀ (r : Int) (x' : LSt), (r = t ∧ (t = 0 → x'.2 = (iI res).toInt ∧ P x'.1) ∧ (t ≠ 0 → F x'.1)) → (hE t (iI res).toInt P F) (some (IV r)) x' := fun r x' h => ⟨r, rfl, h⟩
  generalize (hE t (iI res).toInt P F) = QP at hQ ⊢
  refine j_aload_n (pc := 0) dX0_stationOf_0 rfl ?_
  refine j_iconst (pc := 1) dX0_stationOf_1 rfl ?_
  refine j_aload_n (pc := 2) dX0_stationOf_2 rfl ?_
  refine j_iload_n (pc := 3) dX0_stationOf_3 rfl ?_
  refine j_room (cl' := 0 + mc') (sl' := 0 + ms') (by omega) (by omega) ?_
  refine j_callVc (pc := 4) (As := [IV p0]) (rest := [IV 0, .ref ou]) (hC.toO (w := w) hou) (lw_V q855 q856 q857 q44 q858) rfl md_yX1_stationOf (RC.ofW (x := (h, w)) ho rfl) (Nat.le_refl _) (by decide) rfl (Nat.le_of_ble_eq_true rfl) dX0_stationOf_4 (fun E x' hx => ?_) (fun v x' hq => ?_)
  · obtain ⟨hx, hF⟩ := hx
    obtain ⟨ht, rfl⟩ := xE1 hx
    refine ⟨[], ⟨0, 9, 12, 13⟩, [], _, rfl, (fun _ h => nomatch h), rfl, by decide, q288, fun s H h => (hnx s H h).1, fun q => ?_⟩
    refine j_astore_n (pc := 12) dX0_stationOf_12 (by decide) (lo' := [some (.ref o), some (IV p0), some (.ref ou), some (.ref q)]) rfl ?_
    refine j_iconst (pc := 13) dX0_stationOf_13 rfl ?_
    exact j_iret (pc := 14) rfl (hQ _ _ ⟨by omega, fun z => by omega, fun _ => hF⟩) dX0_stationOf_14
  · obtain ⟨r, rfl, ht, hr, hP⟩ := hq
    rw [IVw r]
    refine j_i2l (pc := 7) dX0_stationOf_7 (rrI _) ?_
    refine j_lastO (pc := 8) (v := (iI r).toInt) rfl dX0_stationOf_8 ?_ hou
    refine j_goto (pc := 9) (tgt := 15) dX0_stationOf_9 (by decide) ?_
    refine j_iconst (pc := 15) dX0_stationOf_15 rfl ?_
    exact j_iret (pc := 16) rfl (hQ _ _ ⟨by omega, fun _ => ⟨by show (iI r).toInt = (iI res).toInt; rw [hr], hP⟩, fun z => absurd ht z⟩) dX0_stationOf_16

theorem md_yX1_peopleOf : MD yX1_peopleOf 1 := by decide +kernel
set_option maxHeartbeats 4000000 in
theorem h_peopleOf {Γ : GG} {A : Nat → Prop} {K : KK} {l : Launch} {ou : Nat} (hou : ¬ A ou) (hnx : NX Γ) (h : AL2) (w : Int) (o : Nat) (p0 : Int) {fs : List Value} (ho : h o = some (pO 0 fs)) {d' mc' ms' : Nat} {t res : Int} {P F : AL2 → Prop}  (hC : Ct Γ A (Rep2 Γ A K) l yX1_peopleOf (ws_ yX1_peopleOf cX1_peopleOf 2 (some .int)) d' mc' ms' [.ref o, IV p0] h (qI (fun r h' => t = 0 ∧ r = res ∧ P h')) (fun E h' => xE ["java/lang/IndexOutOfBoundsException"] t E ∧ F h')) : Ct Γ (AO A ou) (RepO Γ A K ou) l yX0_peopleOf (wsW_ yX0_peopleOf cX0_peopleOf 4 (some .int) [(0, 9, 12, 13)]) (d' + 1) mc' ms' [.ref o, IV p0, .ref ou] (h, w) (hE t (iI res).toInt P F) X0 := by
  refine Ct.ofJH (own := RX0) (nm := "peopleOf") (lo := [some (.ref o), some (IV p0), some (.ref ou), none]) pn_X0 rfl rfl (List.forall_mem_cons.mpr ⟨rfl, (List.forall_mem_cons.mpr ⟨rfl, (List.forall_mem_cons.mpr ⟨rfl, (fun _ h => nomatch h)⟩)⟩)⟩) (Nat.le_of_ble_eq_true rfl) rfl ?_
  have hQ : ∀ (r : Int) (x' : LSt), (r = t ∧ (t = 0 → x'.2 = (iI res).toInt ∧ P x'.1) ∧ (t ≠ 0 → F x'.1)) → (hE t (iI res).toInt P F) (some (IV r)) x' := fun r x' h => ⟨r, rfl, h⟩
  generalize (hE t (iI res).toInt P F) = QP at hQ ⊢
  refine j_aload_n (pc := 0) dX0_peopleOf_0 rfl ?_
  refine j_iconst (pc := 1) dX0_peopleOf_1 rfl ?_
  refine j_aload_n (pc := 2) dX0_peopleOf_2 rfl ?_
  refine j_iload_n (pc := 3) dX0_peopleOf_3 rfl ?_
  refine j_room (cl' := 0 + mc') (sl' := 0 + ms') (by omega) (by omega) ?_
  refine j_callVc (pc := 4) (As := [IV p0]) (rest := [IV 0, .ref ou]) (hC.toO (w := w) hou) (lw_V q862 q863 q864 q44 q865) rfl md_yX1_peopleOf (RC.ofW (x := (h, w)) ho rfl) (Nat.le_refl _) (by decide) rfl (Nat.le_of_ble_eq_true rfl) dX0_peopleOf_4 (fun E x' hx => ?_) (fun v x' hq => ?_)
  · obtain ⟨hx, hF⟩ := hx
    obtain ⟨ht, rfl⟩ := xE1 hx
    refine ⟨[], ⟨0, 9, 12, 13⟩, [], _, rfl, (fun _ h => nomatch h), rfl, by decide, q288, fun s H h => (hnx s H h).1, fun q => ?_⟩
    refine j_astore_n (pc := 12) dX0_peopleOf_12 (by decide) (lo' := [some (.ref o), some (IV p0), some (.ref ou), some (.ref q)]) rfl ?_
    refine j_iconst (pc := 13) dX0_peopleOf_13 rfl ?_
    exact j_iret (pc := 14) rfl (hQ _ _ ⟨by omega, fun z => by omega, fun _ => hF⟩) dX0_peopleOf_14
  · obtain ⟨r, rfl, ht, hr, hP⟩ := hq
    rw [IVw r]
    refine j_i2l (pc := 7) dX0_peopleOf_7 (rrI _) ?_
    refine j_lastO (pc := 8) (v := (iI r).toInt) rfl dX0_peopleOf_8 ?_ hou
    refine j_goto (pc := 9) (tgt := 15) dX0_peopleOf_9 (by decide) ?_
    refine j_iconst (pc := 15) dX0_peopleOf_15 rfl ?_
    exact j_iret (pc := 16) rfl (hQ _ _ ⟨by omega, fun _ => ⟨by show (iI r).toInt = (iI res).toInt; rw [hr], hP⟩, fun z => absurd ht z⟩) dX0_peopleOf_16

theorem md_yX1_early : MD yX1_early 2 := by decide +kernel
set_option maxHeartbeats 4000000 in
theorem h_early {Γ : GG} {A : Nat → Prop} {K : KK} {l : Launch} {ou : Nat} (hou : ¬ A ou) (hnx : NX Γ) (h : AL2) (w : Int) (o : Nat) (p0 : Int) (p1 : Int) {fs : List Value} (ho : h o = some (pO 0 fs)) {d' mc' ms' : Nat} {t res : Int} {P F : AL2 → Prop}  (hC : Ct Γ A (Rep2 Γ A K) l yX1_early (ws_ yX1_early cX1_early 5 (some .int)) d' mc' ms' [.ref o, IV p0, IV p1] h (qI (fun r h' => t = 0 ∧ r = res ∧ P h')) (fun E h' => xE ["java/lang/IndexOutOfBoundsException", "java/lang/IllegalArgumentException", "java/lang/IllegalStateException"] t E ∧ F h')) : Ct Γ (AO A ou) (RepO Γ A K ou) l yX0_early (wsW_ yX0_early cX0_early 5 (some .int) [(0, 10, 13, 13), (0, 10, 17, 15), (0, 10, 21, 24)]) (d' + 1) mc' ms' [.ref o, IV p0, IV p1, .ref ou] (h, w) (hE t (iI res).toInt P F) X0 := by
  refine Ct.ofJH (own := RX0) (nm := "early") (lo := [some (.ref o), some (IV p0), some (IV p1), some (.ref ou), none]) pn_X0 rfl rfl (List.forall_mem_cons.mpr ⟨rfl, (List.forall_mem_cons.mpr ⟨rfl, (List.forall_mem_cons.mpr ⟨rfl, (List.forall_mem_cons.mpr ⟨rfl, (fun _ h => nomatch h)⟩)⟩)⟩)⟩) (Nat.le_of_ble_eq_true rfl) rfl ?_
  have hQ : ∀ (r : Int) (x' : LSt), (r = t ∧ (t = 0 → x'.2 = (iI res).toInt ∧ P x'.1) ∧ (t ≠ 0 → F x'.1)) → (hE t (iI res).toInt P F) (some (IV r)) x' := fun r x' h => ⟨r, rfl, h⟩
  generalize (hE t (iI res).toInt P F) = QP at hQ ⊢
  refine j_aload_n (pc := 0) dX0_early_0 rfl ?_
  refine j_iconst (pc := 1) dX0_early_1 rfl ?_
  refine j_aload_n (pc := 2) dX0_early_2 rfl ?_
  refine j_iload_n (pc := 3) dX0_early_3 rfl ?_
  refine j_iload_n (pc := 4) dX0_early_4 rfl ?_
  refine j_room (cl' := 0 + mc') (sl' := 0 + ms') (by omega) (by omega) ?_
  refine j_callVc (pc := 5) (As := [IV p0, IV p1]) (rest := [IV 0, .ref ou]) (hC.toO (w := w) hou) (lw_V q873 q874 q875 q44 q876) rfl md_yX1_early (RC.ofW (x := (h, w)) ho rfl) (Nat.le_refl _) (by decide) rfl (Nat.le_of_ble_eq_true rfl) dX0_early_5 (fun E x' hx => ?_) (fun v x' hq => ?_)
  · obtain ⟨hx, hF⟩ := hx
    rcases xE3 hx with ⟨ht, rfl⟩ | ⟨ht, rfl⟩ | ⟨ht, rfl⟩
    · refine ⟨[], ⟨0, 10, 13, 13⟩, [⟨0, 10, 17, 15⟩, ⟨0, 10, 21, 24⟩], _, rfl, (fun _ h => nomatch h), rfl, by decide, q288, fun s H h => (hnx s H h).1, fun q => ?_⟩
      refine j_astore (pc := 13) dX0_early_13 (by decide) (lo' := [some (.ref o), some (IV p0), some (IV p1), some (.ref ou), some (.ref q)]) rfl ?_
      refine j_iconst (pc := 15) dX0_early_15 rfl ?_
      exact j_iret (pc := 16) rfl (hQ _ _ ⟨by omega, fun z => by omega, fun _ => hF⟩) dX0_early_16
    · refine ⟨[⟨0, 10, 13, 13⟩], ⟨0, 10, 17, 15⟩, [⟨0, 10, 21, 24⟩], _, rfl, (List.forall_mem_cons.mpr ⟨Or.inr ⟨by decide, _, q288, fun s H h => (hnx s H h).2.2.2.1⟩, (fun _ h => nomatch h)⟩), rfl, by decide, q365, fun s H h => (hnx s H h).2.1, fun q => ?_⟩
      refine j_astore (pc := 17) dX0_early_17 (by decide) (lo' := [some (.ref o), some (IV p0), some (IV p1), some (.ref ou), some (.ref q)]) rfl ?_
      refine j_iconst (pc := 19) dX0_early_19 rfl ?_
      exact j_iret (pc := 20) rfl (hQ _ _ ⟨by omega, fun z => by omega, fun _ => hF⟩) dX0_early_20
    · refine ⟨[⟨0, 10, 13, 13⟩, ⟨0, 10, 17, 15⟩], ⟨0, 10, 21, 24⟩, [], _, rfl, (List.forall_mem_cons.mpr ⟨Or.inr ⟨by decide, _, q288, fun s H h => (hnx s H h).2.2.2.2.1⟩, (List.forall_mem_cons.mpr ⟨Or.inr ⟨by decide, _, q365, fun s H h => (hnx s H h).2.2.2.2.2⟩, (fun _ h => nomatch h)⟩)⟩), rfl, by decide, q435, fun s H h => (hnx s H h).2.2.1, fun q => ?_⟩
      refine j_astore (pc := 21) dX0_early_21 (by decide) (lo' := [some (.ref o), some (IV p0), some (IV p1), some (.ref ou), some (.ref q)]) rfl ?_
      refine j_iconst (pc := 23) dX0_early_23 rfl ?_
      exact j_iret (pc := 24) rfl (hQ _ _ ⟨by omega, fun z => by omega, fun _ => hF⟩) dX0_early_24
  · obtain ⟨r, rfl, ht, hr, hP⟩ := hq
    rw [IVw r]
    refine j_i2l (pc := 8) dX0_early_8 (rrI _) ?_
    refine j_lastO (pc := 9) (v := (iI r).toInt) rfl dX0_early_9 ?_ hou
    refine j_goto (pc := 10) (tgt := 25) dX0_early_10 (by decide) ?_
    refine j_iconst (pc := 25) dX0_early_25 rfl ?_
    exact j_iret (pc := 26) rfl (hQ _ _ ⟨by omega, fun _ => ⟨by show (iI r).toInt = (iI res).toInt; rw [hr], hP⟩, fun z => absurd ht z⟩) dX0_early_26

theorem md_yX1_vote : MD yX1_vote 3 := by decide +kernel
set_option maxHeartbeats 4000000 in
theorem h_vote {Γ : GG} {A : Nat → Prop} {K : KK} {l : Launch} {ou : Nat} (hou : ¬ A ou) (hnx : NX Γ) (h : AL2) (w : Int) (o : Nat) (p0 : Int) (p1 : Int) (p2 : Int) {fs : List Value} (ho : h o = some (pO 0 fs)) {d' mc' ms' : Nat} {t res : Int} {P F : AL2 → Prop}  (hC : Ct Γ A (Rep2 Γ A K) l yX1_vote (ws_ yX1_vote cX1_vote 6 (some .int)) d' mc' ms' [.ref o, IV p0, IV p1, IV p2] h (qI (fun r h' => t = 0 ∧ r = res ∧ P h')) (fun E h' => xE ["java/lang/IndexOutOfBoundsException", "java/lang/IllegalArgumentException", "java/lang/IllegalStateException"] t E ∧ F h')) : Ct Γ (AO A ou) (RepO Γ A K ou) l yX0_vote (wsW_ yX0_vote cX0_vote 6 (some .int) [(0, 12, 15, 13), (0, 12, 19, 15), (0, 12, 23, 24)]) (d' + 1) mc' ms' [.ref o, IV p0, IV p1, IV p2, .ref ou] (h, w) (hE t (iI res).toInt P F) X0 := by
  refine Ct.ofJH (own := RX0) (nm := "vote") (lo := [some (.ref o), some (IV p0), some (IV p1), some (IV p2), some (.ref ou), none]) pn_X0 rfl rfl (List.forall_mem_cons.mpr ⟨rfl, (List.forall_mem_cons.mpr ⟨rfl, (List.forall_mem_cons.mpr ⟨rfl, (List.forall_mem_cons.mpr ⟨rfl, (List.forall_mem_cons.mpr ⟨rfl, (fun _ h => nomatch h)⟩)⟩)⟩)⟩)⟩) (Nat.le_of_ble_eq_true rfl) rfl ?_
  have hQ : ∀ (r : Int) (x' : LSt), (r = t ∧ (t = 0 → x'.2 = (iI res).toInt ∧ P x'.1) ∧ (t ≠ 0 → F x'.1)) → (hE t (iI res).toInt P F) (some (IV r)) x' := fun r x' h => ⟨r, rfl, h⟩
  generalize (hE t (iI res).toInt P F) = QP at hQ ⊢
  refine j_aload (pc := 0) dX0_vote_0 rfl ?_
  refine j_iconst (pc := 2) dX0_vote_2 rfl ?_
  refine j_aload_n (pc := 3) dX0_vote_3 rfl ?_
  refine j_iload_n (pc := 4) dX0_vote_4 rfl ?_
  refine j_iload_n (pc := 5) dX0_vote_5 rfl ?_
  refine j_iload_n (pc := 6) dX0_vote_6 rfl ?_
  refine j_room (cl' := 0 + mc') (sl' := 0 + ms') (by omega) (by omega) ?_
  refine j_callVc (pc := 7) (As := [IV p0, IV p1, IV p2]) (rest := [IV 0, .ref ou]) (hC.toO (w := w) hou) (lw_V q905 q906 q907 q44 q908) rfl md_yX1_vote (RC.ofW (x := (h, w)) ho rfl) (Nat.le_refl _) (by decide) rfl (Nat.le_of_ble_eq_true rfl) dX0_vote_7 (fun E x' hx => ?_) (fun v x' hq => ?_)
  · obtain ⟨hx, hF⟩ := hx
    rcases xE3 hx with ⟨ht, rfl⟩ | ⟨ht, rfl⟩ | ⟨ht, rfl⟩
    · refine ⟨[], ⟨0, 12, 15, 13⟩, [⟨0, 12, 19, 15⟩, ⟨0, 12, 23, 24⟩], _, rfl, (fun _ h => nomatch h), rfl, by decide, q288, fun s H h => (hnx s H h).1, fun q => ?_⟩
      refine j_astore (pc := 15) dX0_vote_15 (by decide) (lo' := [some (.ref o), some (IV p0), some (IV p1), some (IV p2), some (.ref ou), some (.ref q)]) rfl ?_
      refine j_iconst (pc := 17) dX0_vote_17 rfl ?_
      exact j_iret (pc := 18) rfl (hQ _ _ ⟨by omega, fun z => by omega, fun _ => hF⟩) dX0_vote_18
    · refine ⟨[⟨0, 12, 15, 13⟩], ⟨0, 12, 19, 15⟩, [⟨0, 12, 23, 24⟩], _, rfl, (List.forall_mem_cons.mpr ⟨Or.inr ⟨by decide, _, q288, fun s H h => (hnx s H h).2.2.2.1⟩, (fun _ h => nomatch h)⟩), rfl, by decide, q365, fun s H h => (hnx s H h).2.1, fun q => ?_⟩
      refine j_astore (pc := 19) dX0_vote_19 (by decide) (lo' := [some (.ref o), some (IV p0), some (IV p1), some (IV p2), some (.ref ou), some (.ref q)]) rfl ?_
      refine j_iconst (pc := 21) dX0_vote_21 rfl ?_
      exact j_iret (pc := 22) rfl (hQ _ _ ⟨by omega, fun z => by omega, fun _ => hF⟩) dX0_vote_22
    · refine ⟨[⟨0, 12, 15, 13⟩, ⟨0, 12, 19, 15⟩], ⟨0, 12, 23, 24⟩, [], _, rfl, (List.forall_mem_cons.mpr ⟨Or.inr ⟨by decide, _, q288, fun s H h => (hnx s H h).2.2.2.2.1⟩, (List.forall_mem_cons.mpr ⟨Or.inr ⟨by decide, _, q365, fun s H h => (hnx s H h).2.2.2.2.2⟩, (fun _ h => nomatch h)⟩)⟩), rfl, by decide, q435, fun s H h => (hnx s H h).2.2.1, fun q => ?_⟩
      refine j_astore (pc := 23) dX0_vote_23 (by decide) (lo' := [some (.ref o), some (IV p0), some (IV p1), some (IV p2), some (.ref ou), some (.ref q)]) rfl ?_
      refine j_iconst (pc := 25) dX0_vote_25 rfl ?_
      exact j_iret (pc := 26) rfl (hQ _ _ ⟨by omega, fun z => by omega, fun _ => hF⟩) dX0_vote_26
  · obtain ⟨r, rfl, ht, hr, hP⟩ := hq
    rw [IVw r]
    refine j_i2l (pc := 10) dX0_vote_10 (rrI _) ?_
    refine j_lastO (pc := 11) (v := (iI r).toInt) rfl dX0_vote_11 ?_ hou
    refine j_goto (pc := 12) (tgt := 27) dX0_vote_12 (by decide) ?_
    refine j_iconst (pc := 27) dX0_vote_27 rfl ?_
    exact j_iret (pc := 28) rfl (hQ _ _ ⟨by omega, fun _ => ⟨by show (iI r).toInt = (iI res).toInt; rw [hr], hP⟩, fun z => absurd ht z⟩) dX0_vote_28

theorem md_yX1_open : MD yX1_open 1 := by decide +kernel
set_option maxHeartbeats 4000000 in
theorem h_open {Γ : GG} {A : Nat → Prop} {K : KK} {l : Launch} {ou : Nat} (hou : ¬ A ou) (hnx : NX Γ) (h : AL2) (w : Int) (o : Nat) (p0 : Int) {fs : List Value} (ho : h o = some (pO 0 fs)) {d' mc' ms' : Nat} {t res : Int} {P F : AL2 → Prop}  (hC : Ct Γ A (Rep2 Γ A K) l yX1_open (ws_ yX1_open cX1_open 4 (some .int)) d' mc' ms' [.ref o, IV p0] h (qI (fun r h' => t = 0 ∧ r = res ∧ P h')) (fun E h' => xE ["java/lang/IndexOutOfBoundsException", "java/lang/IllegalStateException"] t E ∧ F h')) : Ct Γ (AO A ou) (RepO Γ A K ou) l yX0_open (wsW_ yX0_open cX0_open 4 (some .int) [(0, 9, 12, 13), (0, 9, 15, 24)]) (d' + 1) mc' ms' [.ref o, IV p0, .ref ou] (h, w) (hE t (iI res).toInt P F) X0 := by
  refine Ct.ofJH (own := RX0) (nm := "open") (lo := [some (.ref o), some (IV p0), some (.ref ou), none]) pn_X0 rfl rfl (List.forall_mem_cons.mpr ⟨rfl, (List.forall_mem_cons.mpr ⟨rfl, (List.forall_mem_cons.mpr ⟨rfl, (fun _ h => nomatch h)⟩)⟩)⟩) (Nat.le_of_ble_eq_true rfl) rfl ?_
  have hQ : ∀ (r : Int) (x' : LSt), (r = t ∧ (t = 0 → x'.2 = (iI res).toInt ∧ P x'.1) ∧ (t ≠ 0 → F x'.1)) → (hE t (iI res).toInt P F) (some (IV r)) x' := fun r x' h => ⟨r, rfl, h⟩
  generalize (hE t (iI res).toInt P F) = QP at hQ ⊢
  refine j_aload_n (pc := 0) dX0_open_0 rfl ?_
  refine j_iconst (pc := 1) dX0_open_1 rfl ?_
  refine j_aload_n (pc := 2) dX0_open_2 rfl ?_
  refine j_iload_n (pc := 3) dX0_open_3 rfl ?_
  refine j_room (cl' := 0 + mc') (sl' := 0 + ms') (by omega) (by omega) ?_
  refine j_callVc (pc := 4) (As := [IV p0]) (rest := [IV 0, .ref ou]) (hC.toO (w := w) hou) (lw_V q914 q915 q916 q44 q917) rfl md_yX1_open (RC.ofW (x := (h, w)) ho rfl) (Nat.le_refl _) (by decide) rfl (Nat.le_of_ble_eq_true rfl) dX0_open_4 (fun E x' hx => ?_) (fun v x' hq => ?_)
  · obtain ⟨hx, hF⟩ := hx
    rcases xE2 hx with ⟨ht, rfl⟩ | ⟨ht, rfl⟩
    · refine ⟨[], ⟨0, 9, 12, 13⟩, [⟨0, 9, 15, 24⟩], _, rfl, (fun _ h => nomatch h), rfl, by decide, q288, fun s H h => (hnx s H h).1, fun q => ?_⟩
      refine j_astore_n (pc := 12) dX0_open_12 (by decide) (lo' := [some (.ref o), some (IV p0), some (.ref ou), some (.ref q)]) rfl ?_
      refine j_iconst (pc := 13) dX0_open_13 rfl ?_
      exact j_iret (pc := 14) rfl (hQ _ _ ⟨by omega, fun z => by omega, fun _ => hF⟩) dX0_open_14
    · refine ⟨[⟨0, 9, 12, 13⟩], ⟨0, 9, 15, 24⟩, [], _, rfl, (List.forall_mem_cons.mpr ⟨Or.inr ⟨by decide, _, q288, fun s H h => (hnx s H h).2.2.2.2.1⟩, (fun _ h => nomatch h)⟩), rfl, by decide, q435, fun s H h => (hnx s H h).2.2.1, fun q => ?_⟩
      refine j_astore_n (pc := 15) dX0_open_15 (by decide) (lo' := [some (.ref o), some (IV p0), some (.ref ou), some (.ref q)]) rfl ?_
      refine j_iconst (pc := 16) dX0_open_16 rfl ?_
      exact j_iret (pc := 17) rfl (hQ _ _ ⟨by omega, fun z => by omega, fun _ => hF⟩) dX0_open_17
  · obtain ⟨r, rfl, ht, hr, hP⟩ := hq
    rw [IVw r]
    refine j_i2l (pc := 7) dX0_open_7 (rrI _) ?_
    refine j_lastO (pc := 8) (v := (iI r).toInt) rfl dX0_open_8 ?_ hou
    refine j_goto (pc := 9) (tgt := 18) dX0_open_9 (by decide) ?_
    refine j_iconst (pc := 18) dX0_open_18 rfl ?_
    exact j_iret (pc := 19) rfl (hQ _ _ ⟨by omega, fun _ => ⟨by show (iI r).toInt = (iI res).toInt; rw [hr], hP⟩, fun z => absurd ht z⟩) dX0_open_19

theorem md_yX1_stateOf : MD yX1_stateOf 1 := by decide +kernel
set_option maxHeartbeats 4000000 in
theorem h_stateOf {Γ : GG} {A : Nat → Prop} {K : KK} {l : Launch} {ou : Nat} (hou : ¬ A ou) (hnx : NX Γ) (h : AL2) (w : Int) (o : Nat) (p0 : Int) {fs : List Value} (ho : h o = some (pO 0 fs)) {d' mc' ms' : Nat} {t res : Int} {P F : AL2 → Prop}  (hC : Ct Γ A (Rep2 Γ A K) l yX1_stateOf (ws_ yX1_stateOf cX1_stateOf 2 (some .int)) d' mc' ms' [.ref o, IV p0] h (qI (fun r h' => t = 0 ∧ r = res ∧ P h')) (fun E h' => xE ["java/lang/IndexOutOfBoundsException"] t E ∧ F h')) : Ct Γ (AO A ou) (RepO Γ A K ou) l yX0_stateOf (wsW_ yX0_stateOf cX0_stateOf 4 (some .int) [(0, 9, 12, 13)]) (d' + 1) mc' ms' [.ref o, IV p0, .ref ou] (h, w) (hE t (iI res).toInt P F) X0 := by
  refine Ct.ofJH (own := RX0) (nm := "stateOf") (lo := [some (.ref o), some (IV p0), some (.ref ou), none]) pn_X0 rfl rfl (List.forall_mem_cons.mpr ⟨rfl, (List.forall_mem_cons.mpr ⟨rfl, (List.forall_mem_cons.mpr ⟨rfl, (fun _ h => nomatch h)⟩)⟩)⟩) (Nat.le_of_ble_eq_true rfl) rfl ?_
  have hQ : ∀ (r : Int) (x' : LSt), (r = t ∧ (t = 0 → x'.2 = (iI res).toInt ∧ P x'.1) ∧ (t ≠ 0 → F x'.1)) → (hE t (iI res).toInt P F) (some (IV r)) x' := fun r x' h => ⟨r, rfl, h⟩
  generalize (hE t (iI res).toInt P F) = QP at hQ ⊢
  refine j_aload_n (pc := 0) dX0_stateOf_0 rfl ?_
  refine j_iconst (pc := 1) dX0_stateOf_1 rfl ?_
  refine j_aload_n (pc := 2) dX0_stateOf_2 rfl ?_
  refine j_iload_n (pc := 3) dX0_stateOf_3 rfl ?_
  refine j_room (cl' := 0 + mc') (sl' := 0 + ms') (by omega) (by omega) ?_
  refine j_callVc (pc := 4) (As := [IV p0]) (rest := [IV 0, .ref ou]) (hC.toO (w := w) hou) (lw_V q970 q971 q972 q44 q973) rfl md_yX1_stateOf (RC.ofW (x := (h, w)) ho rfl) (Nat.le_refl _) (by decide) rfl (Nat.le_of_ble_eq_true rfl) dX0_stateOf_4 (fun E x' hx => ?_) (fun v x' hq => ?_)
  · obtain ⟨hx, hF⟩ := hx
    obtain ⟨ht, rfl⟩ := xE1 hx
    refine ⟨[], ⟨0, 9, 12, 13⟩, [], _, rfl, (fun _ h => nomatch h), rfl, by decide, q288, fun s H h => (hnx s H h).1, fun q => ?_⟩
    refine j_astore_n (pc := 12) dX0_stateOf_12 (by decide) (lo' := [some (.ref o), some (IV p0), some (.ref ou), some (.ref q)]) rfl ?_
    refine j_iconst (pc := 13) dX0_stateOf_13 rfl ?_
    exact j_iret (pc := 14) rfl (hQ _ _ ⟨by omega, fun z => by omega, fun _ => hF⟩) dX0_stateOf_14
  · obtain ⟨r, rfl, ht, hr, hP⟩ := hq
    rw [IVw r]
    refine j_i2l (pc := 7) dX0_stateOf_7 (rrI _) ?_
    refine j_lastO (pc := 8) (v := (iI r).toInt) rfl dX0_stateOf_8 ?_ hou
    refine j_goto (pc := 9) (tgt := 15) dX0_stateOf_9 (by decide) ?_
    refine j_iconst (pc := 15) dX0_stateOf_15 rfl ?_
    exact j_iret (pc := 16) rfl (hQ _ _ ⟨by omega, fun _ => ⟨by show (iI r).toInt = (iI res).toInt; rw [hr], hP⟩, fun z => absurd ht z⟩) dX0_stateOf_16

theorem md_yX1_personOf : MD yX1_personOf 1 := by decide +kernel
set_option maxHeartbeats 4000000 in
theorem h_personOf {Γ : GG} {A : Nat → Prop} {K : KK} {l : Launch} {ou : Nat} (hou : ¬ A ou) (hnx : NX Γ) (h : AL2) (w : Int) (o : Nat) (p0 : Int) {fs : List Value} (ho : h o = some (pO 0 fs)) {d' mc' ms' : Nat} {t res : Int} {P F : AL2 → Prop}  (hC : Ct Γ A (Rep2 Γ A K) l yX1_personOf (ws_ yX1_personOf cX1_personOf 2 (some .int)) d' mc' ms' [.ref o, IV p0] h (qI (fun r h' => t = 0 ∧ r = res ∧ P h')) (fun E h' => xE ["java/lang/IndexOutOfBoundsException"] t E ∧ F h')) : Ct Γ (AO A ou) (RepO Γ A K ou) l yX0_personOf (wsW_ yX0_personOf cX0_personOf 4 (some .int) [(0, 9, 12, 13)]) (d' + 1) mc' ms' [.ref o, IV p0, .ref ou] (h, w) (hE t (iI res).toInt P F) X0 := by
  refine Ct.ofJH (own := RX0) (nm := "personOf") (lo := [some (.ref o), some (IV p0), some (.ref ou), none]) pn_X0 rfl rfl (List.forall_mem_cons.mpr ⟨rfl, (List.forall_mem_cons.mpr ⟨rfl, (List.forall_mem_cons.mpr ⟨rfl, (fun _ h => nomatch h)⟩)⟩)⟩) (Nat.le_of_ble_eq_true rfl) rfl ?_
  have hQ : ∀ (r : Int) (x' : LSt), (r = t ∧ (t = 0 → x'.2 = (iI res).toInt ∧ P x'.1) ∧ (t ≠ 0 → F x'.1)) → (hE t (iI res).toInt P F) (some (IV r)) x' := fun r x' h => ⟨r, rfl, h⟩
  generalize (hE t (iI res).toInt P F) = QP at hQ ⊢
  refine j_aload_n (pc := 0) dX0_personOf_0 rfl ?_
  refine j_iconst (pc := 1) dX0_personOf_1 rfl ?_
  refine j_aload_n (pc := 2) dX0_personOf_2 rfl ?_
  refine j_iload_n (pc := 3) dX0_personOf_3 rfl ?_
  refine j_room (cl' := 0 + mc') (sl' := 0 + ms') (by omega) (by omega) ?_
  refine j_callVc (pc := 4) (As := [IV p0]) (rest := [IV 0, .ref ou]) (hC.toO (w := w) hou) (lw_V q982 q983 q984 q44 q985) rfl md_yX1_personOf (RC.ofW (x := (h, w)) ho rfl) (Nat.le_refl _) (by decide) rfl (Nat.le_of_ble_eq_true rfl) dX0_personOf_4 (fun E x' hx => ?_) (fun v x' hq => ?_)
  · obtain ⟨hx, hF⟩ := hx
    obtain ⟨ht, rfl⟩ := xE1 hx
    refine ⟨[], ⟨0, 9, 12, 13⟩, [], _, rfl, (fun _ h => nomatch h), rfl, by decide, q288, fun s H h => (hnx s H h).1, fun q => ?_⟩
    refine j_astore_n (pc := 12) dX0_personOf_12 (by decide) (lo' := [some (.ref o), some (IV p0), some (.ref ou), some (.ref q)]) rfl ?_
    refine j_iconst (pc := 13) dX0_personOf_13 rfl ?_
    exact j_iret (pc := 14) rfl (hQ _ _ ⟨by omega, fun z => by omega, fun _ => hF⟩) dX0_personOf_14
  · obtain ⟨r, rfl, ht, hr, hP⟩ := hq
    rw [IVw r]
    refine j_i2l (pc := 7) dX0_personOf_7 (rrI _) ?_
    refine j_lastO (pc := 8) (v := (iI r).toInt) rfl dX0_personOf_8 ?_ hou
    refine j_goto (pc := 9) (tgt := 15) dX0_personOf_9 (by decide) ?_
    refine j_iconst (pc := 15) dX0_personOf_15 rfl ?_
    exact j_iret (pc := 16) rfl (hQ _ _ ⟨by omega, fun _ => ⟨by show (iI r).toInt = (iI res).toInt; rw [hr], hP⟩, fun z => absurd ht z⟩) dX0_personOf_16

theorem md_yX1_ballots : MD yX1_ballots 1 := by decide +kernel
set_option maxHeartbeats 4000000 in
theorem h_ballots {Γ : GG} {A : Nat → Prop} {K : KK} {l : Launch} {ou : Nat} (hou : ¬ A ou) (hnx : NX Γ) (h : AL2) (w : Int) (o : Nat) (p0 : Int) {fs : List Value} (ho : h o = some (pO 0 fs)) {d' mc' ms' : Nat} {t res : Int} {P F : AL2 → Prop}  (hC : Ct Γ A (Rep2 Γ A K) l yX1_ballots (ws_ yX1_ballots cX1_ballots 2 (some .int)) d' mc' ms' [.ref o, IV p0] h (qI (fun r h' => t = 0 ∧ r = res ∧ P h')) (fun E h' => xE ["java/lang/IndexOutOfBoundsException"] t E ∧ F h')) : Ct Γ (AO A ou) (RepO Γ A K ou) l yX0_ballots (wsW_ yX0_ballots cX0_ballots 4 (some .int) [(0, 9, 12, 13)]) (d' + 1) mc' ms' [.ref o, IV p0, .ref ou] (h, w) (hE t (iI res).toInt P F) X0 := by
  refine Ct.ofJH (own := RX0) (nm := "ballots") (lo := [some (.ref o), some (IV p0), some (.ref ou), none]) pn_X0 rfl rfl (List.forall_mem_cons.mpr ⟨rfl, (List.forall_mem_cons.mpr ⟨rfl, (List.forall_mem_cons.mpr ⟨rfl, (fun _ h => nomatch h)⟩)⟩)⟩) (Nat.le_of_ble_eq_true rfl) rfl ?_
  have hQ : ∀ (r : Int) (x' : LSt), (r = t ∧ (t = 0 → x'.2 = (iI res).toInt ∧ P x'.1) ∧ (t ≠ 0 → F x'.1)) → (hE t (iI res).toInt P F) (some (IV r)) x' := fun r x' h => ⟨r, rfl, h⟩
  generalize (hE t (iI res).toInt P F) = QP at hQ ⊢
  refine j_aload_n (pc := 0) dX0_ballots_0 rfl ?_
  refine j_iconst (pc := 1) dX0_ballots_1 rfl ?_
  refine j_aload_n (pc := 2) dX0_ballots_2 rfl ?_
  refine j_iload_n (pc := 3) dX0_ballots_3 rfl ?_
  refine j_room (cl' := 0 + mc') (sl' := 0 + ms') (by omega) (by omega) ?_
  refine j_callVc (pc := 4) (As := [IV p0]) (rest := [IV 0, .ref ou]) (hC.toO (w := w) hou) (lw_V q989 q990 q991 q44 q992) rfl md_yX1_ballots (RC.ofW (x := (h, w)) ho rfl) (Nat.le_refl _) (by decide) rfl (Nat.le_of_ble_eq_true rfl) dX0_ballots_4 (fun E x' hx => ?_) (fun v x' hq => ?_)
  · obtain ⟨hx, hF⟩ := hx
    obtain ⟨ht, rfl⟩ := xE1 hx
    refine ⟨[], ⟨0, 9, 12, 13⟩, [], _, rfl, (fun _ h => nomatch h), rfl, by decide, q288, fun s H h => (hnx s H h).1, fun q => ?_⟩
    refine j_astore_n (pc := 12) dX0_ballots_12 (by decide) (lo' := [some (.ref o), some (IV p0), some (.ref ou), some (.ref q)]) rfl ?_
    refine j_iconst (pc := 13) dX0_ballots_13 rfl ?_
    exact j_iret (pc := 14) rfl (hQ _ _ ⟨by omega, fun z => by omega, fun _ => hF⟩) dX0_ballots_14
  · obtain ⟨r, rfl, ht, hr, hP⟩ := hq
    rw [IVw r]
    refine j_i2l (pc := 7) dX0_ballots_7 (rrI _) ?_
    refine j_lastO (pc := 8) (v := (iI r).toInt) rfl dX0_ballots_8 ?_ hou
    refine j_goto (pc := 9) (tgt := 15) dX0_ballots_9 (by decide) ?_
    refine j_iconst (pc := 15) dX0_ballots_15 rfl ?_
    exact j_iret (pc := 16) rfl (hQ _ _ ⟨by omega, fun _ => ⟨by show (iI r).toInt = (iI res).toInt; rw [hr], hP⟩, fun z => absurd ht z⟩) dX0_ballots_16

theorem md_yX1_setSlip : MD yX1_setSlip 2 := by decide +kernel
set_option maxHeartbeats 4000000 in
theorem h_setSlip {Γ : GG} {A : Nat → Prop} {K : KK} {l : Launch} {ou : Nat} (hou : ¬ A ou) (hnx : NX Γ) (h : AL2) (w : Int) (o : Nat) (p0 : Int) (p1 : Int) {fs : List Value} (ho : h o = some (pO 0 fs)) {d' mc' ms' : Nat} {t res : Int} {P F : AL2 → Prop}  (hC : Ct Γ A (Rep2 Γ A K) l yX1_setSlip (ws_ yX1_setSlip cX1_setSlip 4 (some .int)) d' mc' ms' [.ref o, IV p0, IV p1] h (qI (fun r h' => t = 0 ∧ r = res ∧ P h')) (fun E h' => xE ["java/lang/IndexOutOfBoundsException", "java/lang/IllegalArgumentException"] t E ∧ F h')) : Ct Γ (AO A ou) (RepO Γ A K ou) l yX0_setSlip (wsW_ yX0_setSlip cX0_setSlip 5 (some .int) [(0, 10, 13, 13), (0, 10, 17, 15)]) (d' + 1) mc' ms' [.ref o, IV p0, IV p1, .ref ou] (h, w) (hE t (iI res).toInt P F) X0 := by
  refine Ct.ofJH (own := RX0) (nm := "setSlip") (lo := [some (.ref o), some (IV p0), some (IV p1), some (.ref ou), none]) pn_X0 rfl rfl (List.forall_mem_cons.mpr ⟨rfl, (List.forall_mem_cons.mpr ⟨rfl, (List.forall_mem_cons.mpr ⟨rfl, (List.forall_mem_cons.mpr ⟨rfl, (fun _ h => nomatch h)⟩)⟩)⟩)⟩) (Nat.le_of_ble_eq_true rfl) rfl ?_
  have hQ : ∀ (r : Int) (x' : LSt), (r = t ∧ (t = 0 → x'.2 = (iI res).toInt ∧ P x'.1) ∧ (t ≠ 0 → F x'.1)) → (hE t (iI res).toInt P F) (some (IV r)) x' := fun r x' h => ⟨r, rfl, h⟩
  generalize (hE t (iI res).toInt P F) = QP at hQ ⊢
  refine j_aload_n (pc := 0) dX0_setSlip_0 rfl ?_
  refine j_iconst (pc := 1) dX0_setSlip_1 rfl ?_
  refine j_aload_n (pc := 2) dX0_setSlip_2 rfl ?_
  refine j_iload_n (pc := 3) dX0_setSlip_3 rfl ?_
  refine j_iload_n (pc := 4) dX0_setSlip_4 rfl ?_
  refine j_room (cl' := 0 + mc') (sl' := 0 + ms') (by omega) (by omega) ?_
  refine j_callVc (pc := 5) (As := [IV p0, IV p1]) (rest := [IV 0, .ref ou]) (hC.toO (w := w) hou) (lw_V q996 q997 q998 q44 q999) rfl md_yX1_setSlip (RC.ofW (x := (h, w)) ho rfl) (Nat.le_refl _) (by decide) rfl (Nat.le_of_ble_eq_true rfl) dX0_setSlip_5 (fun E x' hx => ?_) (fun v x' hq => ?_)
  · obtain ⟨hx, hF⟩ := hx
    rcases xE2 hx with ⟨ht, rfl⟩ | ⟨ht, rfl⟩
    · refine ⟨[], ⟨0, 10, 13, 13⟩, [⟨0, 10, 17, 15⟩], _, rfl, (fun _ h => nomatch h), rfl, by decide, q288, fun s H h => (hnx s H h).1, fun q => ?_⟩
      refine j_astore (pc := 13) dX0_setSlip_13 (by decide) (lo' := [some (.ref o), some (IV p0), some (IV p1), some (.ref ou), some (.ref q)]) rfl ?_
      refine j_iconst (pc := 15) dX0_setSlip_15 rfl ?_
      exact j_iret (pc := 16) rfl (hQ _ _ ⟨by omega, fun z => by omega, fun _ => hF⟩) dX0_setSlip_16
    · refine ⟨[⟨0, 10, 13, 13⟩], ⟨0, 10, 17, 15⟩, [], _, rfl, (List.forall_mem_cons.mpr ⟨Or.inr ⟨by decide, _, q288, fun s H h => (hnx s H h).2.2.2.1⟩, (fun _ h => nomatch h)⟩), rfl, by decide, q365, fun s H h => (hnx s H h).2.1, fun q => ?_⟩
      refine j_astore (pc := 17) dX0_setSlip_17 (by decide) (lo' := [some (.ref o), some (IV p0), some (IV p1), some (.ref ou), some (.ref q)]) rfl ?_
      refine j_iconst (pc := 19) dX0_setSlip_19 rfl ?_
      exact j_iret (pc := 20) rfl (hQ _ _ ⟨by omega, fun z => by omega, fun _ => hF⟩) dX0_setSlip_20
  · obtain ⟨r, rfl, ht, hr, hP⟩ := hq
    rw [IVw r]
    refine j_i2l (pc := 8) dX0_setSlip_8 (rrI _) ?_
    refine j_lastO (pc := 9) (v := (iI r).toInt) rfl dX0_setSlip_9 ?_ hou
    refine j_goto (pc := 10) (tgt := 21) dX0_setSlip_10 (by decide) ?_
    refine j_iconst (pc := 21) dX0_setSlip_21 rfl ?_
    exact j_iret (pc := 22) rfl (hQ _ _ ⟨by omega, fun _ => ⟨by show (iI r).toInt = (iI res).toInt; rw [hr], hP⟩, fun z => absurd ht z⟩) dX0_setSlip_22

theorem md_yX1_count : MD yX1_count 2 := by decide +kernel
set_option maxHeartbeats 4000000 in
theorem h_count {Γ : GG} {A : Nat → Prop} {K : KK} {l : Launch} {ou : Nat} (hou : ¬ A ou) (hnx : NX Γ) (h : AL2) (w : Int) (o : Nat) (p0 : Int) (p1 : Int) {fs : List Value} (ho : h o = some (pO 0 fs)) {d' mc' ms' : Nat} {t res : Int} {P F : AL2 → Prop} (hres : res = 0 ∨ res = 1) (hC : Ct Γ A (Rep2 Γ A K) l yX1_count (ws_ yX1_count cX1_count 4 (some .boolean)) d' mc' ms' [.ref o, IV p0, IV p1] h (qI (fun r h' => t = 0 ∧ r = res ∧ P h')) (fun E h' => xE ["java/lang/IndexOutOfBoundsException", "java/lang/IllegalStateException"] t E ∧ F h')) : Ct Γ (AO A ou) (RepO Γ A K ou) l yX0_count (wsW_ yX0_count cX0_count 5 (some .int) [(0, 17, 20, 13), (0, 17, 24, 24)]) (d' + 1) mc' ms' [.ref o, IV p0, IV p1, .ref ou] (h, w) (hE t (iI res).toInt P F) X0 := by
  refine Ct.ofJH (own := RX0) (nm := "count") (lo := [some (.ref o), some (IV p0), some (IV p1), some (.ref ou), none]) pn_X0 rfl rfl (List.forall_mem_cons.mpr ⟨rfl, (List.forall_mem_cons.mpr ⟨rfl, (List.forall_mem_cons.mpr ⟨rfl, (List.forall_mem_cons.mpr ⟨rfl, (fun _ h => nomatch h)⟩)⟩)⟩)⟩) (Nat.le_of_ble_eq_true rfl) rfl ?_
  have hQ : ∀ (r : Int) (x' : LSt), (r = t ∧ (t = 0 → x'.2 = (iI res).toInt ∧ P x'.1) ∧ (t ≠ 0 → F x'.1)) → (hE t (iI res).toInt P F) (some (IV r)) x' := fun r x' h => ⟨r, rfl, h⟩
  generalize (hE t (iI res).toInt P F) = QP at hQ ⊢
  refine j_aload_n (pc := 0) dX0_count_0 rfl ?_
  refine j_iconst (pc := 1) dX0_count_1 rfl ?_
  refine j_aload_n (pc := 2) dX0_count_2 rfl ?_
  refine j_iload_n (pc := 3) dX0_count_3 rfl ?_
  refine j_iload_n (pc := 4) dX0_count_4 rfl ?_
  refine j_room (cl' := 0 + mc') (sl' := 0 + ms') (by omega) (by omega) ?_
  refine j_callVc (pc := 5) (As := [IV p0, IV p1]) (rest := [IV 0, .ref ou]) (hC.toO (w := w) hou) (lw_V q1003 q1004 q1005 q44 q1006) rfl md_yX1_count (RC.ofW (x := (h, w)) ho rfl) (Nat.le_refl _) (by decide) rfl (Nat.le_of_ble_eq_true rfl) dX0_count_5 (fun E x' hx => ?_) (fun v x' hq => ?_)
  · obtain ⟨hx, hF⟩ := hx
    rcases xE2 hx with ⟨ht, rfl⟩ | ⟨ht, rfl⟩
    · refine ⟨[], ⟨0, 17, 20, 13⟩, [⟨0, 17, 24, 24⟩], _, rfl, (fun _ h => nomatch h), rfl, by decide, q288, fun s H h => (hnx s H h).1, fun q => ?_⟩
      refine j_astore (pc := 20) dX0_count_20 (by decide) (lo' := [some (.ref o), some (IV p0), some (IV p1), some (.ref ou), some (.ref q)]) rfl ?_
      refine j_iconst (pc := 22) dX0_count_22 rfl ?_
      exact j_iret (pc := 23) rfl (hQ _ _ ⟨by omega, fun z => by omega, fun _ => hF⟩) dX0_count_23
    · refine ⟨[⟨0, 17, 20, 13⟩], ⟨0, 17, 24, 24⟩, [], _, rfl, (List.forall_mem_cons.mpr ⟨Or.inr ⟨by decide, _, q288, fun s H h => (hnx s H h).2.2.2.2.1⟩, (fun _ h => nomatch h)⟩), rfl, by decide, q435, fun s H h => (hnx s H h).2.2.1, fun q => ?_⟩
      refine j_astore (pc := 24) dX0_count_24 (by decide) (lo' := [some (.ref o), some (IV p0), some (IV p1), some (.ref ou), some (.ref q)]) rfl ?_
      refine j_iconst (pc := 26) dX0_count_26 rfl ?_
      exact j_iret (pc := 27) rfl (hQ _ _ ⟨by omega, fun z => by omega, fun _ => hF⟩) dX0_count_27
  · obtain ⟨r, rfl, ht, hr, hP⟩ := hq
    refine j_if_eq (pc := 8) (tgt := 15) dX0_count_8 (by decide) (by omega) (fun c => ?_) (fun c => ?_)
    · refine j_lconst (pc := 15) (v := Int64.ofInt 0) dX0_count_15 rfl ?_
      refine j_lastO (pc := 16) (v := 0) rfl dX0_count_16 ?_ hou
      refine j_goto (pc := 17) (tgt := 28) dX0_count_17 (by decide) ?_
      refine j_iconst (pc := 28) dX0_count_28 rfl ?_
      exact j_iret (pc := 29) rfl (hQ _ _ ⟨by omega, fun _ => ⟨by show 0 = (iI res).toInt; rw [show res = 0 by omega]; rfl, hP⟩, fun z => absurd ht z⟩) dX0_count_29
    · refine j_lconst (pc := 11) (v := Int64.ofInt 1) dX0_count_11 rfl ?_
      refine j_goto (pc := 12) (tgt := 16) dX0_count_12 (by decide) ?_
      refine j_lastO (pc := 16) (v := 1) rfl dX0_count_16 ?_ hou
      refine j_goto (pc := 17) (tgt := 28) dX0_count_17 (by decide) ?_
      refine j_iconst (pc := 28) dX0_count_28 rfl ?_
      exact j_iret (pc := 29) rfl (hQ _ _ ⟨by omega, fun _ => ⟨by show 1 = (iI res).toInt; rw [show res = 1 by omega]; rfl, hP⟩, fun z => absurd ht z⟩) dX0_count_29

theorem md_yX1_recount : MD yX1_recount 1 := by decide +kernel
set_option maxHeartbeats 4000000 in
theorem h_recount {Γ : GG} {A : Nat → Prop} {K : KK} {l : Launch} {ou : Nat} (hou : ¬ A ou) (hnx : NX Γ) (h : AL2) (w : Int) (o : Nat) (p0 : Int) {fs : List Value} (ho : h o = some (pO 0 fs)) {d' mc' ms' : Nat} {t res : Int} {P F : AL2 → Prop}  (hC : Ct Γ A (Rep2 Γ A K) l yX1_recount (ws_ yX1_recount cX1_recount 4 (some .int)) d' mc' ms' [.ref o, IV p0] h (qI (fun r h' => t = 0 ∧ r = res ∧ P h')) (fun E h' => xE ["java/lang/IndexOutOfBoundsException", "java/lang/IllegalStateException"] t E ∧ F h')) : Ct Γ (AO A ou) (RepO Γ A K ou) l yX0_recount (wsW_ yX0_recount cX0_recount 4 (some .int) [(0, 9, 12, 13), (0, 9, 15, 24)]) (d' + 1) mc' ms' [.ref o, IV p0, .ref ou] (h, w) (hE t (iI res).toInt P F) X0 := by
  refine Ct.ofJH (own := RX0) (nm := "recount") (lo := [some (.ref o), some (IV p0), some (.ref ou), none]) pn_X0 rfl rfl (List.forall_mem_cons.mpr ⟨rfl, (List.forall_mem_cons.mpr ⟨rfl, (List.forall_mem_cons.mpr ⟨rfl, (fun _ h => nomatch h)⟩)⟩)⟩) (Nat.le_of_ble_eq_true rfl) rfl ?_
  have hQ : ∀ (r : Int) (x' : LSt), (r = t ∧ (t = 0 → x'.2 = (iI res).toInt ∧ P x'.1) ∧ (t ≠ 0 → F x'.1)) → (hE t (iI res).toInt P F) (some (IV r)) x' := fun r x' h => ⟨r, rfl, h⟩
  generalize (hE t (iI res).toInt P F) = QP at hQ ⊢
  refine j_aload_n (pc := 0) dX0_recount_0 rfl ?_
  refine j_iconst (pc := 1) dX0_recount_1 rfl ?_
  refine j_aload_n (pc := 2) dX0_recount_2 rfl ?_
  refine j_iload_n (pc := 3) dX0_recount_3 rfl ?_
  refine j_room (cl' := 0 + mc') (sl' := 0 + ms') (by omega) (by omega) ?_
  refine j_callVc (pc := 4) (As := [IV p0]) (rest := [IV 0, .ref ou]) (hC.toO (w := w) hou) (lw_V q1029 q1030 q1031 q44 q1032) rfl md_yX1_recount (RC.ofW (x := (h, w)) ho rfl) (Nat.le_refl _) (by decide) rfl (Nat.le_of_ble_eq_true rfl) dX0_recount_4 (fun E x' hx => ?_) (fun v x' hq => ?_)
  · obtain ⟨hx, hF⟩ := hx
    rcases xE2 hx with ⟨ht, rfl⟩ | ⟨ht, rfl⟩
    · refine ⟨[], ⟨0, 9, 12, 13⟩, [⟨0, 9, 15, 24⟩], _, rfl, (fun _ h => nomatch h), rfl, by decide, q288, fun s H h => (hnx s H h).1, fun q => ?_⟩
      refine j_astore_n (pc := 12) dX0_recount_12 (by decide) (lo' := [some (.ref o), some (IV p0), some (.ref ou), some (.ref q)]) rfl ?_
      refine j_iconst (pc := 13) dX0_recount_13 rfl ?_
      exact j_iret (pc := 14) rfl (hQ _ _ ⟨by omega, fun z => by omega, fun _ => hF⟩) dX0_recount_14
    · refine ⟨[⟨0, 9, 12, 13⟩], ⟨0, 9, 15, 24⟩, [], _, rfl, (List.forall_mem_cons.mpr ⟨Or.inr ⟨by decide, _, q288, fun s H h => (hnx s H h).2.2.2.2.1⟩, (fun _ h => nomatch h)⟩), rfl, by decide, q435, fun s H h => (hnx s H h).2.2.1, fun q => ?_⟩
      refine j_astore_n (pc := 15) dX0_recount_15 (by decide) (lo' := [some (.ref o), some (IV p0), some (.ref ou), some (.ref q)]) rfl ?_
      refine j_iconst (pc := 16) dX0_recount_16 rfl ?_
      exact j_iret (pc := 17) rfl (hQ _ _ ⟨by omega, fun z => by omega, fun _ => hF⟩) dX0_recount_17
  · obtain ⟨r, rfl, ht, hr, hP⟩ := hq
    rw [IVw r]
    refine j_i2l (pc := 7) dX0_recount_7 (rrI _) ?_
    refine j_lastO (pc := 8) (v := (iI r).toInt) rfl dX0_recount_8 ?_ hou
    refine j_goto (pc := 9) (tgt := 18) dX0_recount_9 (by decide) ?_
    refine j_iconst (pc := 18) dX0_recount_18 rfl ?_
    exact j_iret (pc := 19) rfl (hQ _ _ ⟨by omega, fun _ => ⟨by show (iI r).toInt = (iI res).toInt; rw [hr], hP⟩, fun z => absurd ht z⟩) dX0_recount_19

theorem md_yX1_isSettled : MD yX1_isSettled 1 := by decide +kernel
set_option maxHeartbeats 4000000 in
theorem h_isSettled {Γ : GG} {A : Nat → Prop} {K : KK} {l : Launch} {ou : Nat} (hou : ¬ A ou) (hnx : NX Γ) (h : AL2) (w : Int) (o : Nat) (p0 : Int) {fs : List Value} (ho : h o = some (pO 0 fs)) {d' mc' ms' : Nat} {t res : Int} {P F : AL2 → Prop} (hres : res = 0 ∨ res = 1) (hC : Ct Γ A (Rep2 Γ A K) l yX1_isSettled (ws_ yX1_isSettled cX1_isSettled 2 (some .boolean)) d' mc' ms' [.ref o, IV p0] h (qI (fun r h' => t = 0 ∧ r = res ∧ P h')) (fun E h' => xE ["java/lang/IndexOutOfBoundsException"] t E ∧ F h')) : Ct Γ (AO A ou) (RepO Γ A K ou) l yX0_isSettled (wsW_ yX0_isSettled cX0_isSettled 4 (some .int) [(0, 16, 19, 13)]) (d' + 1) mc' ms' [.ref o, IV p0, .ref ou] (h, w) (hE t (iI res).toInt P F) X0 := by
  refine Ct.ofJH (own := RX0) (nm := "isSettled") (lo := [some (.ref o), some (IV p0), some (.ref ou), none]) pn_X0 rfl rfl (List.forall_mem_cons.mpr ⟨rfl, (List.forall_mem_cons.mpr ⟨rfl, (List.forall_mem_cons.mpr ⟨rfl, (fun _ h => nomatch h)⟩)⟩)⟩) (Nat.le_of_ble_eq_true rfl) rfl ?_
  have hQ : ∀ (r : Int) (x' : LSt), (r = t ∧ (t = 0 → x'.2 = (iI res).toInt ∧ P x'.1) ∧ (t ≠ 0 → F x'.1)) → (hE t (iI res).toInt P F) (some (IV r)) x' := fun r x' h => ⟨r, rfl, h⟩
  generalize (hE t (iI res).toInt P F) = QP at hQ ⊢
  refine j_aload_n (pc := 0) dX0_isSettled_0 rfl ?_
  refine j_iconst (pc := 1) dX0_isSettled_1 rfl ?_
  refine j_aload_n (pc := 2) dX0_isSettled_2 rfl ?_
  refine j_iload_n (pc := 3) dX0_isSettled_3 rfl ?_
  refine j_room (cl' := 0 + mc') (sl' := 0 + ms') (by omega) (by omega) ?_
  refine j_callVc (pc := 4) (As := [IV p0]) (rest := [IV 0, .ref ou]) (hC.toO (w := w) hou) (lw_V q1045 q1046 q1047 q44 q1048) rfl md_yX1_isSettled (RC.ofW (x := (h, w)) ho rfl) (Nat.le_refl _) (by decide) rfl (Nat.le_of_ble_eq_true rfl) dX0_isSettled_4 (fun E x' hx => ?_) (fun v x' hq => ?_)
  · obtain ⟨hx, hF⟩ := hx
    obtain ⟨ht, rfl⟩ := xE1 hx
    refine ⟨[], ⟨0, 16, 19, 13⟩, [], _, rfl, (fun _ h => nomatch h), rfl, by decide, q288, fun s H h => (hnx s H h).1, fun q => ?_⟩
    refine j_astore_n (pc := 19) dX0_isSettled_19 (by decide) (lo' := [some (.ref o), some (IV p0), some (.ref ou), some (.ref q)]) rfl ?_
    refine j_iconst (pc := 20) dX0_isSettled_20 rfl ?_
    exact j_iret (pc := 21) rfl (hQ _ _ ⟨by omega, fun z => by omega, fun _ => hF⟩) dX0_isSettled_21
  · obtain ⟨r, rfl, ht, hr, hP⟩ := hq
    refine j_if_eq (pc := 7) (tgt := 14) dX0_isSettled_7 (by decide) (by omega) (fun c => ?_) (fun c => ?_)
    · refine j_lconst (pc := 14) (v := Int64.ofInt 0) dX0_isSettled_14 rfl ?_
      refine j_lastO (pc := 15) (v := 0) rfl dX0_isSettled_15 ?_ hou
      refine j_goto (pc := 16) (tgt := 22) dX0_isSettled_16 (by decide) ?_
      refine j_iconst (pc := 22) dX0_isSettled_22 rfl ?_
      exact j_iret (pc := 23) rfl (hQ _ _ ⟨by omega, fun _ => ⟨by show 0 = (iI res).toInt; rw [show res = 0 by omega]; rfl, hP⟩, fun z => absurd ht z⟩) dX0_isSettled_23
    · refine j_lconst (pc := 10) (v := Int64.ofInt 1) dX0_isSettled_10 rfl ?_
      refine j_goto (pc := 11) (tgt := 15) dX0_isSettled_11 (by decide) ?_
      refine j_lastO (pc := 15) (v := 1) rfl dX0_isSettled_15 ?_ hou
      refine j_goto (pc := 16) (tgt := 22) dX0_isSettled_16 (by decide) ?_
      refine j_iconst (pc := 22) dX0_isSettled_22 rfl ?_
      exact j_iret (pc := 23) rfl (hQ _ _ ⟨by omega, fun _ => ⟨by show 1 = (iI res).toInt; rw [show res = 1 by omega]; rfl, hP⟩, fun z => absurd ht z⟩) dX0_isSettled_23

theorem md_yX1_numberOf : MD yX1_numberOf 2 := by decide +kernel
set_option maxHeartbeats 4000000 in
theorem h_numberOf {Γ : GG} {A : Nat → Prop} {K : KK} {l : Launch} {ou : Nat} (hou : ¬ A ou) (hnx : NX Γ) (h : AL2) (w : Int) (o : Nat) (p0 : Int) (p1 : Int) {fs : List Value} (ho : h o = some (pO 0 fs)) {d' mc' ms' : Nat} {t res : Int} {P F : AL2 → Prop}  (hC : Ct Γ A (Rep2 Γ A K) l yX1_numberOf (ws_ yX1_numberOf cX1_numberOf 4 (some .int)) d' mc' ms' [.ref o, IV p0, IV p1] h (qI (fun r h' => t = 0 ∧ r = res ∧ P h')) (fun E h' => xE ["java/lang/IndexOutOfBoundsException", "java/lang/IllegalArgumentException"] t E ∧ F h')) : Ct Γ (AO A ou) (RepO Γ A K ou) l yX0_numberOf (wsW_ yX0_numberOf cX0_numberOf 5 (some .int) [(0, 10, 13, 13), (0, 10, 17, 15)]) (d' + 1) mc' ms' [.ref o, IV p0, IV p1, .ref ou] (h, w) (hE t (iI res).toInt P F) X0 := by
  refine Ct.ofJH (own := RX0) (nm := "numberOf") (lo := [some (.ref o), some (IV p0), some (IV p1), some (.ref ou), none]) pn_X0 rfl rfl (List.forall_mem_cons.mpr ⟨rfl, (List.forall_mem_cons.mpr ⟨rfl, (List.forall_mem_cons.mpr ⟨rfl, (List.forall_mem_cons.mpr ⟨rfl, (fun _ h => nomatch h)⟩)⟩)⟩)⟩) (Nat.le_of_ble_eq_true rfl) rfl ?_
  have hQ : ∀ (r : Int) (x' : LSt), (r = t ∧ (t = 0 → x'.2 = (iI res).toInt ∧ P x'.1) ∧ (t ≠ 0 → F x'.1)) → (hE t (iI res).toInt P F) (some (IV r)) x' := fun r x' h => ⟨r, rfl, h⟩
  generalize (hE t (iI res).toInt P F) = QP at hQ ⊢
  refine j_aload_n (pc := 0) dX0_numberOf_0 rfl ?_
  refine j_iconst (pc := 1) dX0_numberOf_1 rfl ?_
  refine j_aload_n (pc := 2) dX0_numberOf_2 rfl ?_
  refine j_iload_n (pc := 3) dX0_numberOf_3 rfl ?_
  refine j_iload_n (pc := 4) dX0_numberOf_4 rfl ?_
  refine j_room (cl' := 0 + mc') (sl' := 0 + ms') (by omega) (by omega) ?_
  refine j_callVc (pc := 5) (As := [IV p0, IV p1]) (rest := [IV 0, .ref ou]) (hC.toO (w := w) hou) (lw_V q1052 q1053 q1054 q44 q1055) rfl md_yX1_numberOf (RC.ofW (x := (h, w)) ho rfl) (Nat.le_refl _) (by decide) rfl (Nat.le_of_ble_eq_true rfl) dX0_numberOf_5 (fun E x' hx => ?_) (fun v x' hq => ?_)
  · obtain ⟨hx, hF⟩ := hx
    rcases xE2 hx with ⟨ht, rfl⟩ | ⟨ht, rfl⟩
    · refine ⟨[], ⟨0, 10, 13, 13⟩, [⟨0, 10, 17, 15⟩], _, rfl, (fun _ h => nomatch h), rfl, by decide, q288, fun s H h => (hnx s H h).1, fun q => ?_⟩
      refine j_astore (pc := 13) dX0_numberOf_13 (by decide) (lo' := [some (.ref o), some (IV p0), some (IV p1), some (.ref ou), some (.ref q)]) rfl ?_
      refine j_iconst (pc := 15) dX0_numberOf_15 rfl ?_
      exact j_iret (pc := 16) rfl (hQ _ _ ⟨by omega, fun z => by omega, fun _ => hF⟩) dX0_numberOf_16
    · refine ⟨[⟨0, 10, 13, 13⟩], ⟨0, 10, 17, 15⟩, [], _, rfl, (List.forall_mem_cons.mpr ⟨Or.inr ⟨by decide, _, q288, fun s H h => (hnx s H h).2.2.2.1⟩, (fun _ h => nomatch h)⟩), rfl, by decide, q365, fun s H h => (hnx s H h).2.1, fun q => ?_⟩
      refine j_astore (pc := 17) dX0_numberOf_17 (by decide) (lo' := [some (.ref o), some (IV p0), some (IV p1), some (.ref ou), some (.ref q)]) rfl ?_
      refine j_iconst (pc := 19) dX0_numberOf_19 rfl ?_
      exact j_iret (pc := 20) rfl (hQ _ _ ⟨by omega, fun z => by omega, fun _ => hF⟩) dX0_numberOf_20
  · obtain ⟨r, rfl, ht, hr, hP⟩ := hq
    rw [IVw r]
    refine j_i2l (pc := 8) dX0_numberOf_8 (rrI _) ?_
    refine j_lastO (pc := 9) (v := (iI r).toInt) rfl dX0_numberOf_9 ?_ hou
    refine j_goto (pc := 10) (tgt := 21) dX0_numberOf_10 (by decide) ?_
    refine j_iconst (pc := 21) dX0_numberOf_21 rfl ?_
    exact j_iret (pc := 22) rfl (hQ _ _ ⟨by omega, fun _ => ⟨by show (iI r).toInt = (iI res).toInt; rw [hr], hP⟩, fun z => absurd ht z⟩) dX0_numberOf_22

theorem md_yX1_misread : MD yX1_misread 1 := by decide +kernel
set_option maxHeartbeats 4000000 in
theorem h_misread {Γ : GG} {A : Nat → Prop} {K : KK} {l : Launch} {ou : Nat} (hou : ¬ A ou) (hnx : NX Γ) (h : AL2) (w : Int) (o : Nat) (p0 : Int) {fs : List Value} (ho : h o = some (pO 0 fs)) {d' mc' ms' : Nat} {t res : Int} {P F : AL2 → Prop}  (hC : Ct Γ A (Rep2 Γ A K) l yX1_misread (ws_ yX1_misread cX1_misread 6 (some .int)) d' mc' ms' [.ref o, IV p0] h (qI (fun r h' => t = 0 ∧ r = res ∧ P h')) (fun E h' => xE ["java/lang/IndexOutOfBoundsException"] t E ∧ F h')) : Ct Γ (AO A ou) (RepO Γ A K ou) l yX0_misread (wsW_ yX0_misread cX0_misread 4 (some .int) [(0, 9, 12, 13)]) (d' + 1) mc' ms' [.ref o, IV p0, .ref ou] (h, w) (hE t (iI res).toInt P F) X0 := by
  refine Ct.ofJH (own := RX0) (nm := "misread") (lo := [some (.ref o), some (IV p0), some (.ref ou), none]) pn_X0 rfl rfl (List.forall_mem_cons.mpr ⟨rfl, (List.forall_mem_cons.mpr ⟨rfl, (List.forall_mem_cons.mpr ⟨rfl, (fun _ h => nomatch h)⟩)⟩)⟩) (Nat.le_of_ble_eq_true rfl) rfl ?_
  have hQ : ∀ (r : Int) (x' : LSt), (r = t ∧ (t = 0 → x'.2 = (iI res).toInt ∧ P x'.1) ∧ (t ≠ 0 → F x'.1)) → (hE t (iI res).toInt P F) (some (IV r)) x' := fun r x' h => ⟨r, rfl, h⟩
  generalize (hE t (iI res).toInt P F) = QP at hQ ⊢
  refine j_aload_n (pc := 0) dX0_misread_0 rfl ?_
  refine j_iconst (pc := 1) dX0_misread_1 rfl ?_
  refine j_aload_n (pc := 2) dX0_misread_2 rfl ?_
  refine j_iload_n (pc := 3) dX0_misread_3 rfl ?_
  refine j_room (cl' := 0 + mc') (sl' := 0 + ms') (by omega) (by omega) ?_
  refine j_callVc (pc := 4) (As := [IV p0]) (rest := [IV 0, .ref ou]) (hC.toO (w := w) hou) (lw_V q1059 q1060 q1061 q44 q1062) rfl md_yX1_misread (RC.ofW (x := (h, w)) ho rfl) (Nat.le_refl _) (by decide) rfl (Nat.le_of_ble_eq_true rfl) dX0_misread_4 (fun E x' hx => ?_) (fun v x' hq => ?_)
  · obtain ⟨hx, hF⟩ := hx
    obtain ⟨ht, rfl⟩ := xE1 hx
    refine ⟨[], ⟨0, 9, 12, 13⟩, [], _, rfl, (fun _ h => nomatch h), rfl, by decide, q288, fun s H h => (hnx s H h).1, fun q => ?_⟩
    refine j_astore_n (pc := 12) dX0_misread_12 (by decide) (lo' := [some (.ref o), some (IV p0), some (.ref ou), some (.ref q)]) rfl ?_
    refine j_iconst (pc := 13) dX0_misread_13 rfl ?_
    exact j_iret (pc := 14) rfl (hQ _ _ ⟨by omega, fun z => by omega, fun _ => hF⟩) dX0_misread_14
  · obtain ⟨r, rfl, ht, hr, hP⟩ := hq
    rw [IVw r]
    refine j_i2l (pc := 7) dX0_misread_7 (rrI _) ?_
    refine j_lastO (pc := 8) (v := (iI r).toInt) rfl dX0_misread_8 ?_ hou
    refine j_goto (pc := 9) (tgt := 15) dX0_misread_9 (by decide) ?_
    refine j_iconst (pc := 15) dX0_misread_15 rfl ?_
    exact j_iret (pc := 16) rfl (hQ _ _ ⟨by omega, fun _ => ⟨by show (iI r).toInt = (iI res).toInt; rw [hr], hP⟩, fun z => absurd ht z⟩) dX0_misread_16

theorem md_yX1_votes : MD yX1_votes 1 := by decide +kernel
set_option maxHeartbeats 4000000 in
theorem h_votes {Γ : GG} {A : Nat → Prop} {K : KK} {l : Launch} {ou : Nat} (hou : ¬ A ou) (hnx : NX Γ) (h : AL2) (w : Int) (o : Nat) (p0 : Int) {fs : List Value} (ho : h o = some (pO 0 fs)) {d' mc' ms' : Nat} {t res : Int} {P F : AL2 → Prop}  (hC : Ct Γ A (Rep2 Γ A K) l yX1_votes (ws_ yX1_votes cX1_votes 3 (some .int)) d' mc' ms' [.ref o, IV p0] h (qI (fun r h' => t = 0 ∧ r = res ∧ P h')) (fun E h' => xE ["java/lang/IndexOutOfBoundsException"] t E ∧ F h')) : Ct Γ (AO A ou) (RepO Γ A K ou) l yX0_votes (wsW_ yX0_votes cX0_votes 4 (some .int) [(0, 9, 12, 13)]) (d' + 1) mc' ms' [.ref o, IV p0, .ref ou] (h, w) (hE t (iI res).toInt P F) X0 := by
  refine Ct.ofJH (own := RX0) (nm := "votes") (lo := [some (.ref o), some (IV p0), some (.ref ou), none]) pn_X0 rfl rfl (List.forall_mem_cons.mpr ⟨rfl, (List.forall_mem_cons.mpr ⟨rfl, (List.forall_mem_cons.mpr ⟨rfl, (fun _ h => nomatch h)⟩)⟩)⟩) (Nat.le_of_ble_eq_true rfl) rfl ?_
  have hQ : ∀ (r : Int) (x' : LSt), (r = t ∧ (t = 0 → x'.2 = (iI res).toInt ∧ P x'.1) ∧ (t ≠ 0 → F x'.1)) → (hE t (iI res).toInt P F) (some (IV r)) x' := fun r x' h => ⟨r, rfl, h⟩
  generalize (hE t (iI res).toInt P F) = QP at hQ ⊢
  refine j_aload_n (pc := 0) dX0_votes_0 rfl ?_
  refine j_iconst (pc := 1) dX0_votes_1 rfl ?_
  refine j_aload_n (pc := 2) dX0_votes_2 rfl ?_
  refine j_iload_n (pc := 3) dX0_votes_3 rfl ?_
  refine j_room (cl' := 0 + mc') (sl' := 0 + ms') (by omega) (by omega) ?_
  refine j_callVc (pc := 4) (As := [IV p0]) (rest := [IV 0, .ref ou]) (hC.toO (w := w) hou) (lw_V q1066 q1067 q1068 q44 q1069) rfl md_yX1_votes (RC.ofW (x := (h, w)) ho rfl) (Nat.le_refl _) (by decide) rfl (Nat.le_of_ble_eq_true rfl) dX0_votes_4 (fun E x' hx => ?_) (fun v x' hq => ?_)
  · obtain ⟨hx, hF⟩ := hx
    obtain ⟨ht, rfl⟩ := xE1 hx
    refine ⟨[], ⟨0, 9, 12, 13⟩, [], _, rfl, (fun _ h => nomatch h), rfl, by decide, q288, fun s H h => (hnx s H h).1, fun q => ?_⟩
    refine j_astore_n (pc := 12) dX0_votes_12 (by decide) (lo' := [some (.ref o), some (IV p0), some (.ref ou), some (.ref q)]) rfl ?_
    refine j_iconst (pc := 13) dX0_votes_13 rfl ?_
    exact j_iret (pc := 14) rfl (hQ _ _ ⟨by omega, fun z => by omega, fun _ => hF⟩) dX0_votes_14
  · obtain ⟨r, rfl, ht, hr, hP⟩ := hq
    rw [IVw r]
    refine j_i2l (pc := 7) dX0_votes_7 (rrI _) ?_
    refine j_lastO (pc := 8) (v := (iI r).toInt) rfl dX0_votes_8 ?_ hou
    refine j_goto (pc := 9) (tgt := 15) dX0_votes_9 (by decide) ?_
    refine j_iconst (pc := 15) dX0_votes_15 rfl ?_
    exact j_iret (pc := 16) rfl (hQ _ _ ⟨by omega, fun _ => ⟨by show (iI r).toInt = (iI res).toInt; rw [hr], hP⟩, fun z => absurd ht z⟩) dX0_votes_16

theorem md_yX1_seats : MD yX1_seats 1 := by decide +kernel
set_option maxHeartbeats 4000000 in
theorem h_seats {Γ : GG} {A : Nat → Prop} {K : KK} {l : Launch} {ou : Nat} (hou : ¬ A ou) (hnx : NX Γ) (h : AL2) (w : Int) (o : Nat) (p0 : Int) {fs : List Value} (ho : h o = some (pO 0 fs)) {d' mc' ms' : Nat} {t res : Int} {P F : AL2 → Prop}  (hC : Ct Γ A (Rep2 Γ A K) l yX1_seats (ws_ yX1_seats cX1_seats 3 (some .int)) d' mc' ms' [.ref o, IV p0] h (qI (fun r h' => t = 0 ∧ r = res ∧ P h')) (fun E h' => xE ["java/lang/IndexOutOfBoundsException"] t E ∧ F h')) : Ct Γ (AO A ou) (RepO Γ A K ou) l yX0_seats (wsW_ yX0_seats cX0_seats 4 (some .int) [(0, 9, 12, 13)]) (d' + 1) mc' ms' [.ref o, IV p0, .ref ou] (h, w) (hE t (iI res).toInt P F) X0 := by
  refine Ct.ofJH (own := RX0) (nm := "seats") (lo := [some (.ref o), some (IV p0), some (.ref ou), none]) pn_X0 rfl rfl (List.forall_mem_cons.mpr ⟨rfl, (List.forall_mem_cons.mpr ⟨rfl, (List.forall_mem_cons.mpr ⟨rfl, (fun _ h => nomatch h)⟩)⟩)⟩) (Nat.le_of_ble_eq_true rfl) rfl ?_
  have hQ : ∀ (r : Int) (x' : LSt), (r = t ∧ (t = 0 → x'.2 = (iI res).toInt ∧ P x'.1) ∧ (t ≠ 0 → F x'.1)) → (hE t (iI res).toInt P F) (some (IV r)) x' := fun r x' h => ⟨r, rfl, h⟩
  generalize (hE t (iI res).toInt P F) = QP at hQ ⊢
  refine j_aload_n (pc := 0) dX0_seats_0 rfl ?_
  refine j_iconst (pc := 1) dX0_seats_1 rfl ?_
  refine j_aload_n (pc := 2) dX0_seats_2 rfl ?_
  refine j_iload_n (pc := 3) dX0_seats_3 rfl ?_
  refine j_room (cl' := 0 + mc') (sl' := 0 + ms') (by omega) (by omega) ?_
  refine j_callVc (pc := 4) (As := [IV p0]) (rest := [IV 0, .ref ou]) (hC.toO (w := w) hou) (lw_V q1073 q1074 q1075 q44 q1076) rfl md_yX1_seats (RC.ofW (x := (h, w)) ho rfl) (Nat.le_refl _) (by decide) rfl (Nat.le_of_ble_eq_true rfl) dX0_seats_4 (fun E x' hx => ?_) (fun v x' hq => ?_)
  · obtain ⟨hx, hF⟩ := hx
    obtain ⟨ht, rfl⟩ := xE1 hx
    refine ⟨[], ⟨0, 9, 12, 13⟩, [], _, rfl, (fun _ h => nomatch h), rfl, by decide, q288, fun s H h => (hnx s H h).1, fun q => ?_⟩
    refine j_astore_n (pc := 12) dX0_seats_12 (by decide) (lo' := [some (.ref o), some (IV p0), some (.ref ou), some (.ref q)]) rfl ?_
    refine j_iconst (pc := 13) dX0_seats_13 rfl ?_
    exact j_iret (pc := 14) rfl (hQ _ _ ⟨by omega, fun z => by omega, fun _ => hF⟩) dX0_seats_14
  · obtain ⟨r, rfl, ht, hr, hP⟩ := hq
    rw [IVw r]
    refine j_i2l (pc := 7) dX0_seats_7 (rrI _) ?_
    refine j_lastO (pc := 8) (v := (iI r).toInt) rfl dX0_seats_8 ?_ hou
    refine j_goto (pc := 9) (tgt := 15) dX0_seats_9 (by decide) ?_
    refine j_iconst (pc := 15) dX0_seats_15 rfl ?_
    exact j_iret (pc := 16) rfl (hQ _ _ ⟨by omega, fun _ => ⟨by show (iI r).toInt = (iI res).toInt; rw [hr], hP⟩, fun z => absurd ht z⟩) dX0_seats_16

theorem md_yX1_seatAt : MD yX1_seatAt 1 := by decide +kernel
set_option maxHeartbeats 4000000 in
theorem h_seatAt {Γ : GG} {A : Nat → Prop} {K : KK} {l : Launch} {ou : Nat} (hou : ¬ A ou) (hnx : NX Γ) (h : AL2) (w : Int) (o : Nat) (p0 : Int) {fs : List Value} (ho : h o = some (pO 0 fs)) {d' mc' ms' : Nat} {t res : Int} {P F : AL2 → Prop}  (hC : Ct Γ A (Rep2 Γ A K) l yX1_seatAt (ws_ yX1_seatAt cX1_seatAt 3 (some .int)) d' mc' ms' [.ref o, IV p0] h (qI (fun r h' => t = 0 ∧ r = res ∧ P h')) (fun E h' => xE ["java/lang/IndexOutOfBoundsException"] t E ∧ F h')) : Ct Γ (AO A ou) (RepO Γ A K ou) l yX0_seatAt (wsW_ yX0_seatAt cX0_seatAt 4 (some .int) [(0, 9, 12, 13)]) (d' + 1) mc' ms' [.ref o, IV p0, .ref ou] (h, w) (hE t (iI res).toInt P F) X0 := by
  refine Ct.ofJH (own := RX0) (nm := "seatAt") (lo := [some (.ref o), some (IV p0), some (.ref ou), none]) pn_X0 rfl rfl (List.forall_mem_cons.mpr ⟨rfl, (List.forall_mem_cons.mpr ⟨rfl, (List.forall_mem_cons.mpr ⟨rfl, (fun _ h => nomatch h)⟩)⟩)⟩) (Nat.le_of_ble_eq_true rfl) rfl ?_
  have hQ : ∀ (r : Int) (x' : LSt), (r = t ∧ (t = 0 → x'.2 = (iI res).toInt ∧ P x'.1) ∧ (t ≠ 0 → F x'.1)) → (hE t (iI res).toInt P F) (some (IV r)) x' := fun r x' h => ⟨r, rfl, h⟩
  generalize (hE t (iI res).toInt P F) = QP at hQ ⊢
  refine j_aload_n (pc := 0) dX0_seatAt_0 rfl ?_
  refine j_iconst (pc := 1) dX0_seatAt_1 rfl ?_
  refine j_aload_n (pc := 2) dX0_seatAt_2 rfl ?_
  refine j_iload_n (pc := 3) dX0_seatAt_3 rfl ?_
  refine j_room (cl' := 0 + mc') (sl' := 0 + ms') (by omega) (by omega) ?_
  refine j_callVc (pc := 4) (As := [IV p0]) (rest := [IV 0, .ref ou]) (hC.toO (w := w) hou) (lw_V q1080 q1081 q1082 q44 q1083) rfl md_yX1_seatAt (RC.ofW (x := (h, w)) ho rfl) (Nat.le_refl _) (by decide) rfl (Nat.le_of_ble_eq_true rfl) dX0_seatAt_4 (fun E x' hx => ?_) (fun v x' hq => ?_)
  · obtain ⟨hx, hF⟩ := hx
    obtain ⟨ht, rfl⟩ := xE1 hx
    refine ⟨[], ⟨0, 9, 12, 13⟩, [], _, rfl, (fun _ h => nomatch h), rfl, by decide, q288, fun s H h => (hnx s H h).1, fun q => ?_⟩
    refine j_astore_n (pc := 12) dX0_seatAt_12 (by decide) (lo' := [some (.ref o), some (IV p0), some (.ref ou), some (.ref q)]) rfl ?_
    refine j_iconst (pc := 13) dX0_seatAt_13 rfl ?_
    exact j_iret (pc := 14) rfl (hQ _ _ ⟨by omega, fun z => by omega, fun _ => hF⟩) dX0_seatAt_14
  · obtain ⟨r, rfl, ht, hr, hP⟩ := hq
    rw [IVw r]
    refine j_i2l (pc := 7) dX0_seatAt_7 (rrI _) ?_
    refine j_lastO (pc := 8) (v := (iI r).toInt) rfl dX0_seatAt_8 ?_ hou
    refine j_goto (pc := 9) (tgt := 15) dX0_seatAt_9 (by decide) ?_
    refine j_iconst (pc := 15) dX0_seatAt_15 rfl ?_
    exact j_iret (pc := 16) rfl (hQ _ _ ⟨by omega, fun _ => ⟨by show (iI r).toInt = (iI res).toInt; rw [hr], hP⟩, fun z => absurd ht z⟩) dX0_seatAt_16

theorem md_yX1_seatsByBallots : MD yX1_seatsByBallots 1 := by decide +kernel
set_option maxHeartbeats 4000000 in
theorem h_seatsByBallots {Γ : GG} {A : Nat → Prop} {K : KK} {l : Launch} {ou : Nat} (hou : ¬ A ou) (hnx : NX Γ) (h : AL2) (w : Int) (o : Nat) (p0 : Int) {fs : List Value} (ho : h o = some (pO 0 fs)) {d' mc' ms' : Nat} {t res : Int} {P F : AL2 → Prop}  (hC : Ct Γ A (Rep2 Γ A K) l yX1_seatsByBallots (ws_ yX1_seatsByBallots cX1_seatsByBallots 2 (some .int)) d' mc' ms' [.ref o, IV p0] h (qI (fun r h' => t = 0 ∧ r = res ∧ P h')) (fun E h' => xE ["java/lang/IndexOutOfBoundsException"] t E ∧ F h')) : Ct Γ (AO A ou) (RepO Γ A K ou) l yX0_seatsByBallots (wsW_ yX0_seatsByBallots cX0_seatsByBallots 4 (some .int) [(0, 9, 12, 13)]) (d' + 1) mc' ms' [.ref o, IV p0, .ref ou] (h, w) (hE t (iI res).toInt P F) X0 := by
  refine Ct.ofJH (own := RX0) (nm := "seatsByBallots") (lo := [some (.ref o), some (IV p0), some (.ref ou), none]) pn_X0 rfl rfl (List.forall_mem_cons.mpr ⟨rfl, (List.forall_mem_cons.mpr ⟨rfl, (List.forall_mem_cons.mpr ⟨rfl, (fun _ h => nomatch h)⟩)⟩)⟩) (Nat.le_of_ble_eq_true rfl) rfl ?_
  have hQ : ∀ (r : Int) (x' : LSt), (r = t ∧ (t = 0 → x'.2 = (iI res).toInt ∧ P x'.1) ∧ (t ≠ 0 → F x'.1)) → (hE t (iI res).toInt P F) (some (IV r)) x' := fun r x' h => ⟨r, rfl, h⟩
  generalize (hE t (iI res).toInt P F) = QP at hQ ⊢
  refine j_aload_n (pc := 0) dX0_seatsByBallots_0 rfl ?_
  refine j_iconst (pc := 1) dX0_seatsByBallots_1 rfl ?_
  refine j_aload_n (pc := 2) dX0_seatsByBallots_2 rfl ?_
  refine j_iload_n (pc := 3) dX0_seatsByBallots_3 rfl ?_
  refine j_room (cl' := 0 + mc') (sl' := 0 + ms') (by omega) (by omega) ?_
  refine j_callVc (pc := 4) (As := [IV p0]) (rest := [IV 0, .ref ou]) (hC.toO (w := w) hou) (lw_V q1087 q1088 q1089 q44 q1090) rfl md_yX1_seatsByBallots (RC.ofW (x := (h, w)) ho rfl) (Nat.le_refl _) (by decide) rfl (Nat.le_of_ble_eq_true rfl) dX0_seatsByBallots_4 (fun E x' hx => ?_) (fun v x' hq => ?_)
  · obtain ⟨hx, hF⟩ := hx
    obtain ⟨ht, rfl⟩ := xE1 hx
    refine ⟨[], ⟨0, 9, 12, 13⟩, [], _, rfl, (fun _ h => nomatch h), rfl, by decide, q288, fun s H h => (hnx s H h).1, fun q => ?_⟩
    refine j_astore_n (pc := 12) dX0_seatsByBallots_12 (by decide) (lo' := [some (.ref o), some (IV p0), some (.ref ou), some (.ref q)]) rfl ?_
    refine j_iconst (pc := 13) dX0_seatsByBallots_13 rfl ?_
    exact j_iret (pc := 14) rfl (hQ _ _ ⟨by omega, fun z => by omega, fun _ => hF⟩) dX0_seatsByBallots_14
  · obtain ⟨r, rfl, ht, hr, hP⟩ := hq
    rw [IVw r]
    refine j_i2l (pc := 7) dX0_seatsByBallots_7 (rrI _) ?_
    refine j_lastO (pc := 8) (v := (iI r).toInt) rfl dX0_seatsByBallots_8 ?_ hou
    refine j_goto (pc := 9) (tgt := 15) dX0_seatsByBallots_9 (by decide) ?_
    refine j_iconst (pc := 15) dX0_seatsByBallots_15 rfl ?_
    exact j_iret (pc := 16) rfl (hQ _ _ ⟨by omega, fun _ => ⟨by show (iI r).toInt = (iI res).toInt; rw [hr], hP⟩, fun z => absurd ht z⟩) dX0_seatsByBallots_16

theorem md_yX1_signAt : MD yX1_signAt 2 := by decide +kernel
set_option maxHeartbeats 4000000 in
theorem h_signAt {Γ : GG} {A : Nat → Prop} {K : KK} {l : Launch} {ou : Nat} (hou : ¬ A ou) (hnx : NX Γ) (h : AL2) (w : Int) (o : Nat) (p0 : Int) (p1 : Int) {fs : List Value} (ho : h o = some (pO 0 fs)) {d' mc' ms' : Nat} {t res : Int} {P F : AL2 → Prop}  (hC : Ct Γ A (Rep2 Γ A K) l yX1_signAt (ws_ yX1_signAt cX1_signAt 4 (some .int)) d' mc' ms' [.ref o, IV p0, IV p1] h (qI (fun r h' => t = 0 ∧ r = res ∧ P h')) (fun E h' => xE ["java/lang/IndexOutOfBoundsException"] t E ∧ F h')) : Ct Γ (AO A ou) (RepO Γ A K ou) l yX0_signAt (wsW_ yX0_signAt cX0_signAt 5 (some .int) [(0, 10, 13, 13)]) (d' + 1) mc' ms' [.ref o, IV p0, IV p1, .ref ou] (h, w) (hE t (iI res).toInt P F) X0 := by
  refine Ct.ofJH (own := RX0) (nm := "signAt") (lo := [some (.ref o), some (IV p0), some (IV p1), some (.ref ou), none]) pn_X0 rfl rfl (List.forall_mem_cons.mpr ⟨rfl, (List.forall_mem_cons.mpr ⟨rfl, (List.forall_mem_cons.mpr ⟨rfl, (List.forall_mem_cons.mpr ⟨rfl, (fun _ h => nomatch h)⟩)⟩)⟩)⟩) (Nat.le_of_ble_eq_true rfl) rfl ?_
  have hQ : ∀ (r : Int) (x' : LSt), (r = t ∧ (t = 0 → x'.2 = (iI res).toInt ∧ P x'.1) ∧ (t ≠ 0 → F x'.1)) → (hE t (iI res).toInt P F) (some (IV r)) x' := fun r x' h => ⟨r, rfl, h⟩
  generalize (hE t (iI res).toInt P F) = QP at hQ ⊢
  refine j_aload_n (pc := 0) dX0_signAt_0 rfl ?_
  refine j_iconst (pc := 1) dX0_signAt_1 rfl ?_
  refine j_aload_n (pc := 2) dX0_signAt_2 rfl ?_
  refine j_iload_n (pc := 3) dX0_signAt_3 rfl ?_
  refine j_iload_n (pc := 4) dX0_signAt_4 rfl ?_
  refine j_room (cl' := 0 + mc') (sl' := 0 + ms') (by omega) (by omega) ?_
  refine j_callVc (pc := 5) (As := [IV p0, IV p1]) (rest := [IV 0, .ref ou]) (hC.toO (w := w) hou) (lw_V q1094 q1095 q1096 q44 q1097) rfl md_yX1_signAt (RC.ofW (x := (h, w)) ho rfl) (Nat.le_refl _) (by decide) rfl (Nat.le_of_ble_eq_true rfl) dX0_signAt_5 (fun E x' hx => ?_) (fun v x' hq => ?_)
  · obtain ⟨hx, hF⟩ := hx
    obtain ⟨ht, rfl⟩ := xE1 hx
    refine ⟨[], ⟨0, 10, 13, 13⟩, [], _, rfl, (fun _ h => nomatch h), rfl, by decide, q288, fun s H h => (hnx s H h).1, fun q => ?_⟩
    refine j_astore (pc := 13) dX0_signAt_13 (by decide) (lo' := [some (.ref o), some (IV p0), some (IV p1), some (.ref ou), some (.ref q)]) rfl ?_
    refine j_iconst (pc := 15) dX0_signAt_15 rfl ?_
    exact j_iret (pc := 16) rfl (hQ _ _ ⟨by omega, fun z => by omega, fun _ => hF⟩) dX0_signAt_16
  · obtain ⟨r, rfl, ht, hr, hP⟩ := hq
    rw [IVw r]
    refine j_i2l (pc := 8) dX0_signAt_8 (rrI _) ?_
    refine j_lastO (pc := 9) (v := (iI r).toInt) rfl dX0_signAt_9 ?_ hou
    refine j_goto (pc := 10) (tgt := 17) dX0_signAt_10 (by decide) ?_
    refine j_iconst (pc := 17) dX0_signAt_17 rfl ?_
    exact j_iret (pc := 18) rfl (hQ _ _ ⟨by omega, fun _ => ⟨by show (iI r).toInt = (iI res).toInt; rw [hr], hP⟩, fun z => absurd ht z⟩) dX0_signAt_18

