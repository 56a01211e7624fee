set_option maxRecDepth 100000
set_option maxHeartbeats 4000000 in
theorem op_bar {Γ : GG} {K : KK} {l : Launch} {N0 N1 N3 o mm ou : Nat} {adm : Nat → Nat} (hfl : l.stackTraces = false) (L : Lie N0 N1 N3 o mm ou adm) (hW : Wd (GE Γ N3) (ACo N0 N1 N3) K) {σ : MM} {T : Nat} (hT : T < 64) (hI : Inv σ T) (p0 : Int) (p1 : Int) (p2 : Int) (hp0 : RR p0) (hp1 : RR p1) (hp2 : RR p2) (hb2 : p2 = 0 ∨ p2 = 1) : OPs True Γ K l N0 N1 N3 o mm ou adm σ T yX0_bar (wsW_ yX0_bar cX0_bar 6 (some .int) [(0, 19, 22, 13), (0, 19, 26, 15)]) (8 + 1) 3 16 [.ref o, IV p0, IV p1, IV p2, .ref ou] yX2_bar (ws_ yX2_bar cX2_bar 7 (some .boolean)) 4 [.ref mm, IV p0, IV p1, IV p2] := by
  have hI0 := hI.at0
  refine ⟨(t2 (isC p0 ∧ isC p1) (sStreet p0 p1 ≠ -1)), (σ.2 1 (sStreet p0 p1).toNat), (setA (σ0 σ) 1 (sStreet p0 p1).toNat p2), t2_r, fun _ => (by have := hI.1.1.2 1 (sStreet p0 p1).toNat; have h5 : bLo 1 = 0 := rfl; have h6 : bHi 1 = 1 := rfl; omega), fun w => PL.help L (fun h ad hR => ?_), fun σc w => Ct.mapQ (PL.ref L (m_bar σ p0 p1 p2 hp0 hp1 hp2 hb2 hI.1.1)) ?_⟩
  · have hRel := hR
    have hc := c_bar h hfl hW.1 hW.2.2.1 hW.2.2.2.1 hW.2.2.2.2.1 o ad (σ0 σ) hRel hI0.1.1 p0 hp0 p1 hp1 p2 hp2 hb2
    exact h_bar L.nou hW.2.2.2.2.2.2.2.2.2.2.2.2.2.2.2 h w o p0 p1 p2 hRel.top (by have := hI.1.1.2 1 (sStreet p0 p1).toNat; have h5 : bLo 1 = 0 := rfl; have h6 : bHi 1 = 1 := rfl; omega) hc
  · rintro v z ⟨r, σ', h1, h2, h3⟩
    exact ⟨r, σ', h1, OpEnd.of t2_r hI (fun ht => ⟨rfl, hI.bar hb2⟩) h2, h3⟩

set_option maxHeartbeats 4000000 in
theorem op_way {Γ : GG} {K : KK} {l : Launch} {N0 N1 N3 o mm ou : Nat} {adm : Nat → Nat} (hfl : l.stackTraces = false) (L : Lie N0 N1 N3 o mm ou adm) (hW : Wd (GE Γ N3) (ACo N0 N1 N3) K) {σ : MM} {T : Nat} (hT : T < 64) (hI : Inv σ T) (p0 : Int) (p1 : Int) (hp0 : RR p0) (hp1 : RR p1) : OPs False Γ K l N0 N1 N3 o mm ou adm σ T yX0_way (wsW_ yX0_way cX0_way 5 (some .int) [(0, 10, 13, 13)]) (8 + 1) 2 10 [.ref o, IV p0, IV p1, .ref ou] yX2_way (ws_ yX2_way cX2_way 3 (some .int)) 4 [.ref mm, IV p0, IV p1] := by
  have hI0 := hI.at0
  refine ⟨(t1 (isC p0 ∧ isC p1)), ((sFinds (σ0 σ) p0).2 2 p1.toNat), (sFinds (σ0 σ) p0), t1_r, fun z => z.elim, fun w => PL.help L (fun h ad hR => ?_), fun σc w => Ct.mapQ (PL.ref L (m_way σ p0 p1 hp0 hp1 hI.1.1)) ?_⟩
  · have hRel := hR
    have hc := c_way h hfl hW.1 hW.2.2.1 hW.2.2.2.1 hW.2.2.2.2.1 o ad (σ0 σ) hRel hI0.1.1 p0 hp0 p1 hp1
    exact h_way L.nou hW.2.2.2.2.2.2.2.2.2.2.2.2.2.2.2 h w o p0 p1 hRel.top hc
  · rintro v z ⟨r, σ', h1, h2, h3⟩
    exact ⟨r, σ', h1, OpEnd.of t1_r hI (fun ht => let a := t1_z ht; ⟨by rw [sFinds_1]; rfl, hI.way a.1⟩) h2, h3⟩

set_option maxHeartbeats 4000000 in
theorem op_station {Γ : GG} {K : KK} {l : Launch} {N0 N1 N3 o mm ou : Nat} {adm : Nat → Nat} (hfl : l.stackTraces = false) (L : Lie N0 N1 N3 o mm ou adm) (hW : Wd (GE Γ N3) (ACo N0 N1 N3) K) {σ : MM} {T : Nat} (hT : T < 64) (hI : Inv σ T) (p0 : Int) (p1 : Int) (hp0 : RR p0) (hp1 : RR p1) : OPs False Γ K l N0 N1 N3 o mm ou adm σ T yX0_station (wsW_ yX0_station cX0_station 5 (some .int) [(0, 10, 13, 13), (0, 10, 17, 15), (0, 10, 21, 24)]) (10 + 1) 6 50 [.ref o, IV p0, IV p1, .ref ou] yX2_station (ws_ yX2_station cX2_station 3 (some .int)) 4 [.ref mm, IV p0, IV p1] := by
  have hI0 := hI.at0
  refine ⟨(t3 (isC p0) (0 ≤ p1 ∧ p1 ≤ 20) (σ.1 6 < 5)), (σ.1 6), (setI (setA (setA (σ0 σ) 4 (σ.1 6).toNat p0) 5 (σ.1 6).toNat p1) 6 (σ.1 6 + 1)), t3_r, fun z => z.elim, fun w => PL.help L (fun h ad hR => ?_), fun σc w => Ct.mapQ (PL.ref L (m_station σ p0 p1 hp0 hp1 hI.1.1)) ?_⟩
  · have hRel := hR
    have hc := c_station h hfl hW.1 hW.2.1 hW.2.2.1 hW.2.2.2.1 hW.2.2.2.2.1 o ad (σ0 σ) hRel hI0.1.1 p0 hp0 p1 hp1 hW.2.2.2.2.2.2.2.2.1
    exact h_station L.nou hW.2.2.2.2.2.2.2.2.2.2.2.2.2.2.2 h w o p0 p1 hRel.top hc
  · rintro v z ⟨r, σ', h1, h2, h3⟩
    exact ⟨r, σ', h1, OpEnd.of t3_r hI (fun ht => let ⟨a, b, c⟩ := t3_z ht; ⟨rfl, hI.station a b c⟩) h2, h3⟩

set_option maxHeartbeats 4000000 in
theorem op_setSeats {Γ : GG} {K : KK} {l : Launch} {N0 N1 N3 o mm ou : Nat} {adm : Nat → Nat} (hfl : l.stackTraces = false) (L : Lie N0 N1 N3 o mm ou adm) (hW : Wd (GE Γ N3) (ACo N0 N1 N3) K) {σ : MM} {T : Nat} (hT : T < 64) (hI : Inv σ T) (p0 : Int) (p1 : Int) (hp0 : RR p0) (hp1 : RR p1) : OPs False Γ K l N0 N1 N3 o mm ou adm σ T yX0_setSeats (wsW_ yX0_setSeats cX0_setSeats 5 (some .int) [(0, 10, 13, 13), (0, 10, 17, 15)]) (8 + 1) 3 14 [.ref o, IV p0, IV p1, .ref ou] yX2_setSeats (ws_ yX2_setSeats cX2_setSeats 4 (some .int)) 4 [.ref mm, IV p0, IV p1] := by
  have hI0 := hI.at0
  refine ⟨(t2 (isS σ p0) (0 ≤ p1 ∧ p1 ≤ 20)), (σ.2 5 p0.toNat), (setA (σ0 σ) 5 p0.toNat p1), t2_r, fun z => z.elim, fun w => PL.help L (fun h ad hR => ?_), fun σc w => Ct.mapQ (PL.ref L (m_setSeats σ p0 p1 hp0 hp1 hI.1.1)) ?_⟩
  · have hRel := hR
    have hc := c_setSeats h hfl hW.1 hW.2.1 hW.2.2.1 hW.2.2.2.1 hW.2.2.2.2.1 o ad (σ0 σ) hRel hI0.1.1 p0 hp0 p1 hp1
    exact h_setSeats L.nou hW.2.2.2.2.2.2.2.2.2.2.2.2.2.2.2 h w o p0 p1 hRel.top hc
  · rintro v z ⟨r, σ', h1, h2, h3⟩
    exact ⟨r, σ', h1, OpEnd.of t2_r hI (fun ht => let ⟨a, b⟩ := t2_z ht; ⟨rfl, hI.seats b⟩) h2, h3⟩

set_option maxHeartbeats 4000000 in
theorem op_person {Γ : GG} {K : KK} {l : Launch} {N0 N1 N3 o mm ou : Nat} {adm : Nat → Nat} (hfl : l.stackTraces = false) (L : Lie N0 N1 N3 o mm ou adm) (hW : Wd (GE Γ N3) (ACo N0 N1 N3) K) {σ : MM} {T : Nat} (hT : T < 64) (hI : Inv σ T) (p0 : Int) (p1 : Int) (hp0 : RR p0) (hp1 : RR p1) : OPs False Γ K l N0 N1 N3 o mm ou adm σ T yX0_person (wsW_ yX0_person cX0_person 5 (some .int) [(0, 10, 13, 13), (0, 10, 17, 15), (0, 10, 21, 24)]) (11 + 1) 12 120 [.ref o, IV p0, IV p1, .ref ou] yX2_person (ws_ yX2_person cX2_person 3 (some .int)) 4 [.ref mm, IV p0, IV p1] := by
  have hI0 := hI.at0
  refine ⟨(t3 (isC p0) (0 ≤ p1 ∧ p1 ≤ 2000) (σ.1 9 < 20)), (σ.1 9), (sComes (setI (setA (σ0 σ) 7 (σ.1 9).toNat p1) 9 (σ.1 9 + 1)) (σ.1 9) p0), t3_r, fun z => z.elim, fun w => PL.help L (fun h ad hR => ?_), fun σc w => Ct.mapQ (PL.ref L (m_person σ p0 p1 hp0 hp1 (by have := hI.2.1.1; omega) hI.1.1)) ?_⟩
  · have hRel := hR
    have hc := c_person h hfl hW.1 hW.2.1 hW.2.2.1 hW.2.2.2.1 hW.2.2.2.2.1 o ad (σ0 σ) hRel hI0.1.1 p0 hp0 p1 hp1 hW.2.2.2.2.2.2.2.2.2.1 hW.2.2.2.2.2.2.2.2.2.2.1 hI0.1 (hI0.2.2.2.1 _ (by have := hI0.1.1.1 9; omega))
    exact h_person L.nou hW.2.2.2.2.2.2.2.2.2.2.2.2.2.2.2 h w o p0 p1 hRel.top hc
  · rintro v z ⟨r, σ', h1, h2, h3⟩
    exact ⟨r, σ', h1, OpEnd.of t3_r hI (fun ht => let ⟨a, b, c⟩ := t3_z ht; ⟨rfl, hI.person hT a b c⟩) h2, h3⟩

set_option maxHeartbeats 4000000 in
theorem op_move {Γ : GG} {K : KK} {l : Launch} {N0 N1 N3 o mm ou : Nat} {adm : Nat → Nat} (hfl : l.stackTraces = false) (L : Lie N0 N1 N3 o mm ou adm) (hW : Wd (GE Γ N3) (ACo N0 N1 N3) K) {σ : MM} {T : Nat} (hT : T < 64) (hI : Inv σ T) (p0 : Int) (p1 : Int) (hp0 : RR p0) (hp1 : RR p1) : OPs False Γ K l N0 N1 N3 o mm ou adm σ T yX0_move (wsW_ yX0_move cX0_move 5 (some .int) [(0, 10, 13, 13), (0, 10, 17, 24)]) (11 + 1) 8 1140 [.ref o, IV p0, IV p1, .ref ou] yX2_move (ws_ yX2_move cX2_move 5 (some .int)) 4 [.ref mm, IV p0, IV p1] := by
  have hI0 := hI.at0
  refine ⟨(t2 (isP σ p0 ∧ isC p1) (σ.2 8 p0.toNat = 0)), (sDwelt (σ0 σ) p0 (σ.1 0) (σ.1 13).toNat), (sComes (σ0 σ) p0 p1), t2_r, fun z => z.elim, fun w => PL.help L (fun h ad hR => ?_), fun σc w => Ct.mapQ (PL.ref L (m_move σ p0 p1 hp0 hp1 (by have := hI.2.1.1; omega) hI.1.1)) ?_⟩
  · have hRel := hR
    have hc := c_move h hfl hW.1 hW.2.1 hW.2.2.1 hW.2.2.2.1 hW.2.2.2.2.1 o ad (σ0 σ) hRel hI0.1.1 p0 hp0 p1 hp1 hW.2.2.2.2.2.2.2.2.2.2.1 hI0.1
    exact h_move L.nou hW.2.2.2.2.2.2.2.2.2.2.2.2.2.2.2 h w o p0 p1 hRel.top hc
  · rintro v z ⟨r, σ', h1, h2, h3⟩
    exact ⟨r, σ', h1, OpEnd.of t2_r hI (fun ht => let ⟨a, b⟩ := t2_z ht; ⟨rfl, hI.move hT a.1 a.2⟩) h2, h3⟩

set_option maxHeartbeats 4000000 in
theorem op_die {Γ : GG} {K : KK} {l : Launch} {N0 N1 N3 o mm ou : Nat} {adm : Nat → Nat} (hfl : l.stackTraces = false) (L : Lie N0 N1 N3 o mm ou adm) (hW : Wd (GE Γ N3) (ACo N0 N1 N3) K) {σ : MM} {T : Nat} (hT : T < 64) (hI : Inv σ T) (p0 : Int) (hp0 : RR p0) : OPs True Γ K l N0 N1 N3 o mm ou adm σ T yX0_die (wsW_ yX0_die cX0_die 4 (some .int) [(0, 16, 19, 13), (0, 16, 22, 24)]) (12 + 1) 8 550 [.ref o, IV p0, .ref ou] yX2_die (ws_ yX2_die cX2_die 3 (some .boolean)) 4 [.ref mm, IV p0] := by
  have hI0 := hI.at0
  refine ⟨(t2 (isP σ p0) (σ.2 8 p0.toNat = 0)), (bI (sSealed (setA (σ0 σ) 8 p0.toNat 1) p0 (σ.1 26).toNat ≠ -1)), (sVoids (setA (σ0 σ) 8 p0.toNat 1) p0), t2_r, fun _ => (bI_01 _), fun w => PL.help L (fun h ad hR => ?_), fun σc w => Ct.mapQ (PL.ref L (m_die σ p0 hp0 (by have := hI.n42 (Nat.le_of_lt hT); omega) hI.1.1)) ?_⟩
  · have hRel := hR
    have hc := c_die h hfl hW.1 hW.2.1 hW.2.2.1 hW.2.2.2.1 hW.2.2.2.2.1 o ad (σ0 σ) hRel hI0.1.1 p0 hp0 hW.2.2.2.2.2.2.2.2.2.2.2.1 hI0.1 (by have := hI0.n42 (Nat.le_of_lt hT); omega)
    exact h_die L.nou hW.2.2.2.2.2.2.2.2.2.2.2.2.2.2.2 h w o p0 hRel.top (bI_01 _) hc
  · rintro v z ⟨r, σ', h1, h2, h3⟩
    exact ⟨r, σ', h1, OpEnd.of t2_r hI (fun ht => let ⟨a, b⟩ := t2_z ht; ⟨sVoids_43 rfl, hI.die hT a⟩) h2, h3⟩

set_option maxHeartbeats 4000000 in
theorem op_dwells {Γ : GG} {K : KK} {l : Launch} {N0 N1 N3 o mm ou : Nat} {adm : Nat → Nat} (hfl : l.stackTraces = false) (L : Lie N0 N1 N3 o mm ou adm) (hW : Wd (GE Γ N3) (ACo N0 N1 N3) K) {σ : MM} {T : Nat} (hT : T < 64) (hI : Inv σ T) (p0 : Int) (p1 : Int) (hp0 : RR p0) (hp1 : RR p1) : OPs False Γ K l N0 N1 N3 o mm ou adm σ T yX0_dwells (wsW_ yX0_dwells cX0_dwells 5 (some .int) [(0, 10, 13, 13), (0, 10, 17, 15)]) (10 + 1) 5 24 [.ref o, IV p0, IV p1, .ref ou] yX2_dwells (ws_ yX2_dwells cX2_dwells 3 (some .int)) 4 [.ref mm, IV p0, IV p1] := by
  have hI0 := hI.at0
  refine ⟨(t2 (isP σ p0) (0 ≤ p1 ∧ p1 ≤ σ.1 0)), (sDwelt (σ0 σ) p0 p1 (σ.1 13).toNat), (σ0 σ), t2_r, fun z => z.elim, fun w => PL.help L (fun h ad hR => ?_), fun σc w => Ct.mapQ (PL.ref L (m_dwells σ p0 p1 hp0 hp1 hI.1.1)) ?_⟩
  · have hRel := hR
    have hc := c_dwells h hfl hW.1 hW.2.1 hW.2.2.1 hW.2.2.2.1 hW.2.2.2.2.1 o ad (σ0 σ) hRel hI0.1.1 p0 hp0 p1 hp1
    exact h_dwells L.nou hW.2.2.2.2.2.2.2.2.2.2.2.2.2.2.2 h w o p0 p1 hRel.top hc
  · rintro v z ⟨r, σ', h1, h2, h3⟩
    exact ⟨r, σ', h1, OpEnd.of t2_r hI (fun ht => ⟨rfl, hI.same⟩) h2, h3⟩

set_option maxHeartbeats 4000000 in
theorem op_call {Γ : GG} {K : KK} {l : Launch} {N0 N1 N3 o mm ou : Nat} {adm : Nat → Nat} (hfl : l.stackTraces = false) (L : Lie N0 N1 N3 o mm ou adm) (hW : Wd (GE Γ N3) (ACo N0 N1 N3) K) {σ : MM} {T : Nat} (hT : T < 64) (hI : Inv σ T) (p0 : Int) (p1 : Int) (p2 : Int) (hp0 : RR p0) (hp1 : RR p1) (hp2 : RR p2) (hb2 : p2 = 0 ∨ p2 = 1) : OPs False Γ K l N0 N1 N3 o mm ou adm σ T yX0_call (wsW_ yX0_call cX0_call 6 (some .int) [(0, 12, 15, 15), (0, 12, 19, 24)]) (9 + 1) 9 100 [.ref o, IV p0, IV p1, IV p2, .ref ou] yX2_call (ws_ yX2_call cX2_call 5 (some .int)) 4 [.ref mm, IV p0, IV p1, IV p2] := by
  have hI0 := hI.at0
  refine ⟨(t2 ((8 ≤ p0 ∧ p0 ≤ 100) ∧ 0 ≤ p1 ∧ p1 ≤ 30) ((σ.1 14 = 0 ∨ σ.1 14 = 5) ∧ 0 < σ.1 6 ∧ σ.1 0 + p0 ≤ 2000)), (σ.1 0 + p0), (setI (setI (setI (setI (sClears (σ0 σ)) 14 1) 15 (σ.1 0 + p0)) 16 p1) 17 p2), t2_r, fun z => z.elim, fun w => PL.help L (fun h ad hR => ?_), fun σc w => Ct.mapQ (PL.ref L (m_call σ p0 p1 p2 hp0 hp1 hp2 hb2 hI.1.1)) ?_⟩
  · have hRel := hR
    have hc := c_call h hfl hW.1 hW.2.1 hW.2.2.1 hW.2.2.2.1 hW.2.2.2.2.1 o ad (σ0 σ) hRel hI0.1.1 p0 hp0 p1 hp1 p2 hp2 hb2
    exact h_call L.nou hW.2.2.2.2.2.2.2.2.2.2.2.2.2.2.2 h w o p0 p1 p2 hRel.top hc
  · rintro v z ⟨r, σ', h1, h2, h3⟩
    exact ⟨r, σ', h1, OpEnd.of t2_r hI (fun ht => let ⟨a, b⟩ := t2_z ht; ⟨sCall_43 rfl, hI.call a.1 a.2 hb2 b.2.1 b.2.2⟩) h2, h3⟩

set_option maxHeartbeats 4000000 in
theorem op_seed {Γ : GG} {K : KK} {l : Launch} {N0 N1 N3 o mm ou : Nat} {adm : Nat → Nat} (hfl : l.stackTraces = false) (L : Lie N0 N1 N3 o mm ou adm) (hW : Wd (GE Γ N3) (ACo N0 N1 N3) K) {σ : MM} {T : Nat} (hT : T < 64) (hI : Inv σ T) (p0 : Int) (p1 : Int) (hp0 : RR p0) (hp1 : RR p1) : OPs False Γ K l N0 N1 N3 o mm ou adm σ T yX0_seed (wsW_ yX0_seed cX0_seed 5 (some .int) [(0, 10, 13, 13), (0, 10, 17, 15), (0, 10, 21, 24)]) (9 + 1) 4 20 [.ref o, IV p0, IV p1, .ref ou] yX2_seed (ws_ yX2_seed cX2_seed 5 (some .int)) 4 [.ref mm, IV p0, IV p1] := by
  have hI0 := hI.at0
  refine ⟨(t3 (0 ≤ p0 ∧ p0 ≤ 4) (0 ≤ p1 ∧ p1 ≤ 9999) (σ.1 14 = 1 ∨ σ.1 14 = 2)), (σ.2 18 p0.toNat), (setA (σ0 σ) 18 p0.toNat p1), t3_r, fun z => z.elim, fun w => PL.help L (fun h ad hR => ?_), fun σc w => Ct.mapQ (PL.ref L (m_seed σ p0 p1 hp0 hp1 hI.1.1)) ?_⟩
  · have hRel := hR
    have hc := c_seed h hfl hW.1 hW.2.1 hW.2.2.1 hW.2.2.2.1 hW.2.2.2.2.1 o ad (σ0 σ) hRel hI0.1.1 p0 hp0 p1 hp1
    exact h_seed L.nou hW.2.2.2.2.2.2.2.2.2.2.2.2.2.2.2 h w o p0 p1 hRel.top hc
  · rintro v z ⟨r, σ', h1, h2, h3⟩
    exact ⟨r, σ', h1, OpEnd.of t3_r hI (fun ht => let ⟨a, b, c⟩ := t3_z ht; ⟨rfl, hI.seed b⟩) h2, h3⟩

set_option maxHeartbeats 4000000 in
theorem op_advance {Γ : GG} {K : KK} {l : Launch} {N0 N1 N3 o mm ou : Nat} {adm : Nat → Nat} (hfl : l.stackTraces = false) (L : Lie N0 N1 N3 o mm ou adm) (hW : Wd (GE Γ N3) (ACo N0 N1 N3) K) {σ : MM} {T : Nat} (hT : T < 64) (hI : Inv σ T) (p0 : Int) (hp0 : RR p0) : OPs False Γ K l N0 N1 N3 o mm ou adm σ T yX0_advance (wsW_ yX0_advance cX0_advance 4 (some .int) [(0, 9, 12, 15), (0, 9, 15, 24)]) (15 + 1) 270 36300 [.ref o, IV p0, .ref ou] yX2_advance (ws_ yX2_advance cX2_advance 4 (some .int)) 6 [.ref mm, IV p0] := by
  have hI0 := hI.at0
  refine ⟨(t2 (1 ≤ p0 ∧ p0 ≤ 100) (σ.1 0 + p0 ≤ 2100)), (σ.1 0 + p0), (sAdv (σ0 σ) p0.toNat), t2_r, fun z => z.elim, fun w => PL.help L (fun h ad hR => ?_), fun σc w => Ct.mapQ (PL.ref L (m_advance σ p0 hp0 (Nat.le_of_lt hT) hI.1 hI.2.1 hI.1.1)) ?_⟩
  · have hRel := hR
    have hc := c_advance h hfl hW.1 hW.2.1 hW.2.2.1 hW.2.2.2.1 hW.2.2.2.2.1 o ad (σ0 σ) hRel hI0.1.1 p0 hp0 hW.2.2.2.2.2.1 hW.2.2.2.2.2.2.2.2.2.2.2.1 hW.2.2.2.2.2.2.2.1 hW.2.2.2.2.2.2.2.2.2.2.2.2.1 (Nat.le_of_lt hT) hI0.1 hI0.2.1
    exact h_advance L.nou hW.2.2.2.2.2.2.2.2.2.2.2.2.2.2.2 h w o p0 hRel.top hc
  · rintro v z ⟨r, σ', h1, h2, h3⟩
    exact ⟨r, σ', h1, OpEnd.of t2_r hI (fun ht => let ⟨a, b⟩ := t2_z ht; ⟨sAdv_43 rfl _, hI.adv hT a b⟩) h2, h3⟩

set_option maxHeartbeats 4000000 in
theorem op_isOnRoll {Γ : GG} {K : KK} {l : Launch} {N0 N1 N3 o mm ou : Nat} {adm : Nat → Nat} (hfl : l.stackTraces = false) (L : Lie N0 N1 N3 o mm ou adm) (hW : Wd (GE Γ N3) (ACo N0 N1 N3) K) {σ : MM} {T : Nat} (hT : T < 64) (hI : Inv σ T) (p0 : Int) (hp0 : RR p0) : OPs True Γ K l N0 N1 N3 o mm ou adm σ T yX0_isOnRoll (wsW_ yX0_isOnRoll cX0_isOnRoll 4 (some .int) [(0, 16, 19, 13)]) (10 + 1) 3 14 [.ref o, IV p0, .ref ou] yX2_isOnRoll (ws_ yX2_isOnRoll cX2_isOnRoll 2 (some .boolean)) 4 [.ref mm, IV p0] := by
  have hI0 := hI.at0
  refine ⟨(t1 (isP σ p0)), (bI (σ.2 20 p0.toNat ≠ -1)), (σ0 σ), t1_r, fun _ => (bI_01 _), fun w => PL.help L (fun h ad hR => ?_), fun σc w => Ct.mapQ (PL.ref L (m_isOnRoll σ p0 hp0 hI.1.1)) ?_⟩
  · have hRel := hR
    have hc := c_isOnRoll h hfl hW.1 hW.2.1 hW.2.2.1 hW.2.2.2.1 hW.2.2.2.2.1 o ad (σ0 σ) hRel hI0.1.1 p0 hp0 hI0.1
    exact h_isOnRoll L.nou hW.2.2.2.2.2.2.2.2.2.2.2.2.2.2.2 h w o p0 hRel.top (bI_01 _) hc
  · rintro v z ⟨r, σ', h1, h2, h3⟩
    exact ⟨r, σ', h1, OpEnd.of t1_r hI (fun ht => ⟨rfl, hI.same⟩) h2, h3⟩

set_option maxHeartbeats 4000000 in
theorem op_stationOf {Γ : GG} {K : KK} {l : Launch} {N0 N1 N3 o mm ou : Nat} {adm : Nat → Nat} (hfl : l.stackTraces = false) (L : Lie N0 N1 N3 o mm ou adm) (hW : Wd (GE Γ N3) (ACo N0 N1 N3) K) {σ : MM} {T : Nat} (hT : T < 64) (hI : Inv σ T) (p0 : Int) (hp0 : RR p0) : OPs False Γ K l N0 N1 N3 o mm ou adm σ T yX0_stationOf (wsW_ yX0_stationOf cX0_stationOf 4 (some .int) [(0, 9, 12, 13)]) (10 + 1) 3 14 [.ref o, IV p0, .ref ou] yX2_stationOf (ws_ yX2_stationOf cX2_stationOf 2 (some .int)) 4 [.ref mm, IV p0] := by
  have hI0 := hI.at0
  refine ⟨(t1 (isP σ p0)), (σ.2 20 p0.toNat), (σ0 σ), t1_r, fun z => z.elim, fun w => PL.help L (fun h ad hR => ?_), fun σc w => Ct.mapQ (PL.ref L (m_stationOf σ p0 hp0 hI.1.1)) ?_⟩
  · have hRel := hR
    have hc := c_stationOf h hfl hW.1 hW.2.1 hW.2.2.1 hW.2.2.2.1 hW.2.2.2.2.1 o ad (σ0 σ) hRel hI0.1.1 p0 hp0 hI0.1
    exact h_stationOf L.nou hW.2.2.2.2.2.2.2.2.2.2.2.2.2.2.2 h w o p0 hRel.top hc
  · rintro v z ⟨r, σ', h1, h2, h3⟩
    exact ⟨r, σ', h1, OpEnd.of t1_r hI (fun ht => ⟨rfl, hI.same⟩) h2, h3⟩

set_option maxHeartbeats 4000000 in
theorem op_peopleOf {Γ : GG} {K : KK} {l : Launch} {N0 N1 N3 o mm ou : Nat} {adm : Nat → Nat} (hfl : l.stackTraces = false) (L : Lie N0 N1 N3 o mm ou adm) (hW : Wd (GE Γ N3) (ACo N0 N1 N3) K) {σ : MM} {T : Nat} (hT : T < 64) (hI : Inv σ T) (p0 : Int) (hp0 : RR p0) : OPs False Γ K l N0 N1 N3 o mm ou adm σ T yX0_peopleOf (wsW_ yX0_peopleOf cX0_peopleOf 4 (some .int) [(0, 9, 12, 13)]) (10 + 1) 8 30 [.ref o, IV p0, .ref ou] yX2_peopleOf (ws_ yX2_peopleOf cX2_peopleOf 2 (some .int)) 4 [.ref mm, IV p0] := by
  have hI0 := hI.at0
  refine ⟨(t1 (isS σ p0)), (σ.2 21 p0.toNat), (σ0 σ), t1_r, fun z => z.elim, fun w => PL.help L (fun h ad hR => ?_), fun σc w => Ct.mapQ (PL.ref L (m_peopleOf σ p0 hp0 hI.1.1)) ?_⟩
  · have hRel := hR
    have hc := c_peopleOf h hfl hW.1 hW.2.1 hW.2.2.1 hW.2.2.2.1 hW.2.2.2.2.1 o ad (σ0 σ) hRel hI0.1.1 p0 hp0 hW.2.2.2.2.2.2.2.1 hI0.1
    exact h_peopleOf L.nou hW.2.2.2.2.2.2.2.2.2.2.2.2.2.2.2 h w o p0 hRel.top hc
  · rintro v z ⟨r, σ', h1, h2, h3⟩
    exact ⟨r, σ', h1, OpEnd.of t1_r hI (fun ht => ⟨rfl, hI.same⟩) h2, h3⟩

set_option maxHeartbeats 4000000 in
theorem op_early {Γ : GG} {K : KK} {l : Launch} {N0 N1 N3 o mm ou : Nat} {adm : Nat → Nat} (hfl : l.stackTraces = false) (L : Lie N0 N1 N3 o mm ou adm) (hW : Wd (GE Γ N3) (ACo N0 N1 N3) K) {σ : MM} {T : Nat} (hT : T < 64) (hI : Inv σ T) (p0 : Int) (p1 : Int) (hp0 : RR p0) (hp1 : RR p1) : OPs False Γ K l N0 N1 N3 o mm ou adm σ T yX0_early (wsW_ yX0_early cX0_early 5 (some .int) [(0, 10, 13, 13), (0, 10, 17, 15), (0, 10, 21, 24)]) (13 + 1) 12 1300 [.ref o, IV p0, IV p1, .ref ou] yX2_early (ws_ yX2_early cX2_early 4 (some .int)) 4 [.ref mm, IV p0, IV p1] := by
  have hI0 := hI.at0
  refine ⟨(t3 (isP σ p0) (0 ≤ p1 ∧ p1 ≤ 5) (σ.1 14 = 2 ∧ (σ.2 20 p0.toNat ≠ -1 ∧ σ.2 8 p0.toNat = 0) ∧ σ.1 26 < 60)), (σ.1 26), (sNote (setI (setA (setA (setA (sVoids (σ0 σ) p0) 23 (σ.1 26).toNat p0) 24 (σ.1 26).toNat p1) 25 (σ.1 26).toNat 0) 26 (σ.1 26 + 1)) (σ.1 0) 101 p0), t3_r, fun z => z.elim, fun w => PL.help L (fun h ad hR => ?_), fun σc w => Ct.mapQ (PL.ref L (m_early σ p0 p1 hp0 hp1 (by have := hI.n42 (Nat.le_of_lt hT); omega) hI.1.1)) ?_⟩
  · have hRel := hR
    have hc := c_early h hfl hW.1 hW.2.1 hW.2.2.1 hW.2.2.2.1 hW.2.2.2.2.1 o ad (σ0 σ) hRel hI0.1.1 p0 hp0 p1 hp1 hW.2.2.2.2.2.2.2.2.2.2.2.1 hW.2.2.2.2.2.2.2.2.2.2.2.2.2.1 hI0.1 (by have := hI0.n42 (Nat.le_of_lt hT); omega)
    exact h_early L.nou hW.2.2.2.2.2.2.2.2.2.2.2.2.2.2.2 h w o p0 p1 hRel.top hc
  · rintro v z ⟨r, σ', h1, h2, h3⟩
    exact ⟨r, σ', h1, OpEnd.of t3_r hI (fun ht => let ⟨a, b, c⟩ := t3_z ht; ⟨sVoids_43 (σ := σ0 σ) rfl, hI.early hT a b c.1 c.2.1.1 c.2.2⟩) h2, h3⟩

set_option maxHeartbeats 4000000 in
theorem op_vote {Γ : GG} {K : KK} {l : Launch} {N0 N1 N3 o mm ou : Nat} {adm : Nat → Nat} (hfl : l.stackTraces = false) (L : Lie N0 N1 N3 o mm ou adm) (hW : Wd (GE Γ N3) (ACo N0 N1 N3) K) {σ : MM} {T : Nat} (hT : T < 64) (hI : Inv σ T) (p0 : Int) (p1 : Int) (p2 : Int) (hp0 : RR p0) (hp1 : RR p1) (hp2 : RR p2) : OPs False Γ K l N0 N1 N3 o mm ou adm σ T yX0_vote (wsW_ yX0_vote cX0_vote 6 (some .int) [(0, 12, 15, 13), (0, 12, 19, 15), (0, 12, 23, 24)]) (13 + 1) 14 1300 [.ref o, IV p0, IV p1, IV p2, .ref ou] yX2_vote (ws_ yX2_vote cX2_vote 5 (some .int)) 4 [.ref mm, IV p0, IV p1, IV p2] := by
  have hI0 := hI.at0
  refine ⟨(t3 (isP σ p0 ∧ isS σ p1) (0 ≤ p2 ∧ p2 ≤ 5) (σ.1 14 = 3 ∧ (σ.2 20 p0.toNat ≠ -1 ∧ σ.2 8 p0.toNat = 0) ∧ σ.2 22 p0.toNat = 0 ∧ σ.2 20 p0.toNat = p1)), (σ.2 28 (σ.2 20 p0.toNat).toNat + 1), (sCasts (sNote (sVoids (σ0 σ) p0) (σ.1 0) 118 p0) p0 p2), t3_r, fun z => z.elim, fun w => PL.help L (fun h ad hR => ?_), fun σc w => Ct.mapQ (PL.ref L (m_vote σ p0 p1 p2 hp0 hp1 hp2 (by have := hI.n42 (Nat.le_of_lt hT); omega) hI.1 hI.1.1)) ?_⟩
  · have hRel := hR
    have hc := c_vote h hfl hW.1 hW.2.1 hW.2.2.1 hW.2.2.2.1 hW.2.2.2.2.1 o ad (σ0 σ) hRel hI0.1.1 p0 hp0 p1 hp1 p2 hp2 hW.2.2.2.2.2.2.2.2.2.2.2.1 hW.2.2.2.2.2.1 hI0.1 (by have := hI0.n42 (Nat.le_of_lt hT); omega)
    exact h_vote L.nou hW.2.2.2.2.2.2.2.2.2.2.2.2.2.2.2 h w o p0 p1 p2 hRel.top hc
  · rintro v z ⟨r, σ', h1, h2, h3⟩
    exact ⟨r, σ', h1, OpEnd.of t3_r hI (fun ht => let ⟨a, b, c⟩ := t3_z ht; ⟨sVoids_43 (σ := σ0 σ) rfl, hI.vote hT a.1 b c.1 c.2.1.1 c.2.2.1⟩) h2, h3⟩

set_option maxHeartbeats 4000000 in
theorem op_open {Γ : GG} {K : KK} {l : Launch} {N0 N1 N3 o mm ou : Nat} {adm : Nat → Nat} (hfl : l.stackTraces = false) (L : Lie N0 N1 N3 o mm ou adm) (hW : Wd (GE Γ N3) (ACo N0 N1 N3) K) {σ : MM} {T : Nat} (hT : T < 64) (hI : Inv σ T) (p0 : Int) (hp0 : RR p0) : OPs False Γ K l N0 N1 N3 o mm ou adm σ T yX0_open (wsW_ yX0_open cX0_open 4 (some .int) [(0, 9, 12, 13), (0, 9, 15, 24)]) (13 + 1) 9 650 [.ref o, IV p0, .ref ou] yX2_open (ws_ yX2_open cX2_open 4 (some .int)) 4 [.ref mm, IV p0] := by
  have hI0 := hI.at0
  refine ⟨(t2 (isP σ p0) (σ.1 14 = 3 ∧ sSealed σ p0 (σ.1 26).toNat ≠ -1)), (sSealed σ p0 (σ.1 26).toNat), (sNote (sCasts (setA (σ0 σ) 25 (sSealed σ p0 (σ.1 26).toNat).toNat 2) p0 (σ.2 24 (sSealed σ p0 (σ.1 26).toNat).toNat)) (σ.1 0) 111 p0), t2_r, fun z => z.elim, fun w => PL.help L (fun h ad hR => ?_), fun σc w => Ct.mapQ (PL.ref L (m_open σ p0 hp0 (by have := hI.n42 (Nat.le_of_lt hT); omega) hI.1 hI.1.1)) ?_⟩
  · have hRel := hR
    have hc := c_open h hfl hW.1 hW.2.1 hW.2.2.1 hW.2.2.2.1 hW.2.2.2.2.1 o ad (σ0 σ) hRel hI0.1.1 p0 hp0 hW.2.2.2.2.2.2.2.2.2.2.2.1 hW.2.2.2.2.2.1 hI0.1 (by have := hI0.n42 (Nat.le_of_lt hT); omega)
    rw [show sSealed (σ0 σ) p0 ((σ0 σ).1 26).toNat = sSealed σ p0 (σ.1 26).toNat from sSealed_0 σ p0 _] at hc
    exact h_open L.nou hW.2.2.2.2.2.2.2.2.2.2.2.2.2.2.2 h w o p0 hRel.top hc
  · rintro v z ⟨r, σ', h1, h2, h3⟩
    exact ⟨r, σ', h1, OpEnd.of t2_r hI (fun ht => let ⟨a, b⟩ := t2_z ht; ⟨rfl, hI.openE hT a b.1 b.2⟩) h2, h3⟩

set_option maxHeartbeats 4000000 in
theorem op_stateOf {Γ : GG} {K : KK} {l : Launch} {N0 N1 N3 o mm ou : Nat} {adm : Nat → Nat} (hfl : l.stackTraces = false) (L : Lie N0 N1 N3 o mm ou adm) (hW : Wd (GE Γ N3) (ACo N0 N1 N3) K) {σ : MM} {T : Nat} (hT : T < 64) (hI : Inv σ T) (p0 : Int) (hp0 : RR p0) : OPs False Γ K l N0 N1 N3 o mm ou adm σ T yX0_stateOf (wsW_ yX0_stateOf cX0_stateOf 4 (some .int) [(0, 9, 12, 13)]) (10 + 1) 3 14 [.ref o, IV p0, .ref ou] yX2_stateOf (ws_ yX2_stateOf cX2_stateOf 2 (some .int)) 4 [.ref mm, IV p0] := by
  have hI0 := hI.at0
  refine ⟨(t1 (0 ≤ p0 ∧ p0 ≤ σ.1 26 - 1)), (σ.2 25 p0.toNat), (σ0 σ), t1_r, fun z => z.elim, fun w => PL.help L (fun h ad hR => ?_), fun σc w => Ct.mapQ (PL.ref L (m_stateOf σ p0 hp0 hI.1.1)) ?_⟩
  · have hRel := hR
    have hc := c_stateOf h hfl hW.1 hW.2.1 hW.2.2.1 hW.2.2.2.1 hW.2.2.2.2.1 o ad (σ0 σ) hRel hI0.1.1 p0 hp0 hI0.1
    exact h_stateOf L.nou hW.2.2.2.2.2.2.2.2.2.2.2.2.2.2.2 h w o p0 hRel.top hc
  · rintro v z ⟨r, σ', h1, h2, h3⟩
    exact ⟨r, σ', h1, OpEnd.of t1_r hI (fun ht => ⟨rfl, hI.same⟩) h2, h3⟩

set_option maxHeartbeats 4000000 in
theorem op_personOf {Γ : GG} {K : KK} {l : Launch} {N0 N1 N3 o mm ou : Nat} {adm : Nat → Nat} (hfl : l.stackTraces = false) (L : Lie N0 N1 N3 o mm ou adm) (hW : Wd (GE Γ N3) (ACo N0 N1 N3) K) {σ : MM} {T : Nat} (hT : T < 64) (hI : Inv σ T) (p0 : Int) (hp0 : RR p0) : OPs False Γ K l N0 N1 N3 o mm ou adm σ T yX0_personOf (wsW_ yX0_personOf cX0_personOf 4 (some .int) [(0, 9, 12, 13)]) (10 + 1) 3 14 [.ref o, IV p0, .ref ou] yX2_personOf (ws_ yX2_personOf cX2_personOf 2 (some .int)) 4 [.ref mm, IV p0] := by
  have hI0 := hI.at0
  refine ⟨(t1 (0 ≤ p0 ∧ p0 ≤ σ.1 26 - 1)), (σ.2 23 p0.toNat), (σ0 σ), t1_r, fun z => z.elim, fun w => PL.help L (fun h ad hR => ?_), fun σc w => Ct.mapQ (PL.ref L (m_personOf σ p0 hp0 hI.1.1)) ?_⟩
  · have hRel := hR
    have hc := c_personOf h hfl hW.1 hW.2.1 hW.2.2.1 hW.2.2.2.1 hW.2.2.2.2.1 o ad (σ0 σ) hRel hI0.1.1 p0 hp0 hI0.1
    exact h_personOf L.nou hW.2.2.2.2.2.2.2.2.2.2.2.2.2.2.2 h w o p0 hRel.top hc
  · rintro v z ⟨r, σ', h1, h2, h3⟩
    exact ⟨r, σ', h1, OpEnd.of t1_r hI (fun ht => ⟨rfl, hI.same⟩) h2, h3⟩

set_option maxHeartbeats 4000000 in
theorem op_ballots {Γ : GG} {K : KK} {l : Launch} {N0 N1 N3 o mm ou : Nat} {adm : Nat → Nat} (hfl : l.stackTraces = false) (L : Lie N0 N1 N3 o mm ou adm) (hW : Wd (GE Γ N3) (ACo N0 N1 N3) K) {σ : MM} {T : Nat} (hT : T < 64) (hI : Inv σ T) (p0 : Int) (hp0 : RR p0) : OPs False Γ K l N0 N1 N3 o mm ou adm σ T yX0_ballots (wsW_ yX0_ballots cX0_ballots 4 (some .int) [(0, 9, 12, 13)]) (10 + 1) 8 30 [.ref o, IV p0, .ref ou] yX2_ballots (ws_ yX2_ballots cX2_ballots 2 (some .int)) 4 [.ref mm, IV p0] := by
  have hI0 := hI.at0
  refine ⟨(t1 (isS σ p0)), (σ.2 28 p0.toNat), (σ0 σ), t1_r, fun z => z.elim, fun w => PL.help L (fun h ad hR => ?_), fun σc w => Ct.mapQ (PL.ref L (m_ballots σ p0 hp0 hI.1.1)) ?_⟩
  · have hRel := hR
    have hc := c_ballots h hfl hW.1 hW.2.1 hW.2.2.1 hW.2.2.2.1 hW.2.2.2.2.1 o ad (σ0 σ) hRel hI0.1.1 p0 hp0 hW.2.2.2.2.2.2.2.1 hI0.1
    exact h_ballots L.nou hW.2.2.2.2.2.2.2.2.2.2.2.2.2.2.2 h w o p0 hRel.top hc
  · rintro v z ⟨r, σ', h1, h2, h3⟩
    exact ⟨r, σ', h1, OpEnd.of t1_r hI (fun ht => ⟨rfl, hI.same⟩) h2, h3⟩

set_option maxHeartbeats 4000000 in
theorem op_setSlip {Γ : GG} {K : KK} {l : Launch} {N0 N1 N3 o mm ou : Nat} {adm : Nat → Nat} (hfl : l.stackTraces = false) (L : Lie N0 N1 N3 o mm ou adm) (hW : Wd (GE Γ N3) (ACo N0 N1 N3) K) {σ : MM} {T : Nat} (hT : T < 64) (hI : Inv σ T) (p0 : Int) (p1 : Int) (hp0 : RR p0) (hp1 : RR p1) : OPs False Γ K l N0 N1 N3 o mm ou adm σ T yX0_setSlip (wsW_ yX0_setSlip cX0_setSlip 5 (some .int) [(0, 10, 13, 13), (0, 10, 17, 15)]) (8 + 1) 3 14 [.ref o, IV p0, IV p1, .ref ou] yX2_setSlip (ws_ yX2_setSlip cX2_setSlip 4 (some .int)) 4 [.ref mm, IV p0, IV p1] := by
  have hI0 := hI.at0
  refine ⟨(t2 (0 ≤ p0 ∧ p0 ≤ 3) (p1 = 0 ∨ (2 ≤ p1 ∧ p1 ≤ 20))), (σ.2 33 p0.toNat), (setA (σ0 σ) 33 p0.toNat p1), t2_r, fun z => z.elim, fun w => PL.help L (fun h ad hR => ?_), fun σc w => Ct.mapQ (PL.ref L (m_setSlip σ p0 p1 hp0 hp1 hI.1.1)) ?_⟩
  · have hRel := hR
    have hc := c_setSlip h hfl hW.1 hW.2.1 hW.2.2.1 hW.2.2.2.1 hW.2.2.2.2.1 o ad (σ0 σ) hRel hI0.1.1 p0 hp0 p1 hp1
    exact h_setSlip L.nou hW.2.2.2.2.2.2.2.2.2.2.2.2.2.2.2 h w o p0 p1 hRel.top hc
  · rintro v z ⟨r, σ', h1, h2, h3⟩
    exact ⟨r, σ', h1, OpEnd.of t2_r hI (fun ht => let ⟨a, b⟩ := t2_z ht; ⟨rfl, hI.slip (by omega)⟩) h2, h3⟩

set_option maxHeartbeats 4000000 in
theorem op_count {Γ : GG} {K : KK} {l : Launch} {N0 N1 N3 o mm ou : Nat} {adm : Nat → Nat} (hfl : l.stackTraces = false) (L : Lie N0 N1 N3 o mm ou adm) (hW : Wd (GE Γ N3) (ACo N0 N1 N3) K) {σ : MM} {T : Nat} (hT : T < 64) (hI : Inv σ T) (p0 : Int) (p1 : Int) (hp0 : RR p0) (hp1 : RR p1) : OPs True Γ K l N0 N1 N3 o mm ou adm σ T yX0_count (wsW_ yX0_count cX0_count 5 (some .int) [(0, 17, 20, 13), (0, 17, 24, 24)]) (13 + 1) 14 620 [.ref o, IV p0, IV p1, .ref ou] yX2_count (ws_ yX2_count cX2_count 7 (some .boolean)) 4 [.ref mm, IV p0, IV p1] := by
  have hI0 := hI.at0
  refine ⟨(t2 (isS σ p0 ∧ 0 ≤ p1 ∧ p1 ≤ 3) (σ.1 14 = 4 ∧ p0 < σ.1 19 ∧ σ.2 32 p0.toNat = -1 ∧ σ.2 31 p0.toNat < 8)), (bI ((sCount (σ0 σ) p0 p1).2 32 p0.toNat ≠ -1)), (sCount (σ0 σ) p0 p1), t2_r, fun _ => (bI_01 _), fun w => PL.help L (fun h ad hR => ?_), fun σc w => Ct.mapQ (PL.ref L (m_count σ p0 p1 hp0 hp1 (by have := hI.n42 (Nat.le_of_lt hT); omega) hI.1.1)) ?_⟩
  · have hRel := hR
    have hc := c_count h hfl hW.1 hW.2.1 hW.2.2.1 hW.2.2.2.1 hW.2.2.2.2.1 o ad (σ0 σ) hRel hI0.1.1 p0 hp0 p1 hp1 hW.2.2.2.2.2.2.2.2.2.2.2.1 hW.2.2.2.2.2.2.2.2.2.2.2.2.2.2.1 hW.2.2.2.2.2.1 hW.2.2.2.2.2.2.1 hW.2.2.2.2.2.2.2.1 hI0.1 (by have := hI0.n42 (Nat.le_of_lt hT); omega)
    exact h_count L.nou hW.2.2.2.2.2.2.2.2.2.2.2.2.2.2.2 h w o p0 p1 hRel.top (bI_01 _) hc
  · rintro v z ⟨r, σ', h1, h2, h3⟩
    exact ⟨r, σ', h1, OpEnd.of t2_r hI (fun ht => let ⟨a, b⟩ := t2_z ht; ⟨sCount_43 rfl, hI.count hT a.1 a.2 b.1 b.2.1 b.2.2.1 b.2.2.2⟩) h2, h3⟩

set_option maxHeartbeats 4000000 in
theorem op_recount {Γ : GG} {K : KK} {l : Launch} {N0 N1 N3 o mm ou : Nat} {adm : Nat → Nat} (hfl : l.stackTraces = false) (L : Lie N0 N1 N3 o mm ou adm) (hW : Wd (GE Γ N3) (ACo N0 N1 N3) K) {σ : MM} {T : Nat} (hT : T < 64) (hI : Inv σ T) (p0 : Int) (hp0 : RR p0) : OPs False Γ K l N0 N1 N3 o mm ou adm σ T yX0_recount (wsW_ yX0_recount cX0_recount 4 (some .int) [(0, 9, 12, 13), (0, 9, 15, 24)]) (10 + 1) 8 30 [.ref o, IV p0, .ref ou] yX2_recount (ws_ yX2_recount cX2_recount 4 (some .int)) 4 [.ref mm, IV p0] := by
  have hI0 := hI.at0
  refine ⟨(t2 (isS σ p0) (σ.1 14 = 4)), (σ.2 31 p0.toNat), (setA (setA (σ0 σ) 31 p0.toNat 0) 32 p0.toNat (-1)), t2_r, fun z => z.elim, fun w => PL.help L (fun h ad hR => ?_), fun σc w => Ct.mapQ (PL.ref L (m_recount σ p0 hp0 hI.1.1)) ?_⟩
  · have hRel := hR
    have hc := c_recount h hfl hW.1 hW.2.1 hW.2.2.1 hW.2.2.2.1 hW.2.2.2.2.1 o ad (σ0 σ) hRel hI0.1.1 p0 hp0 hW.2.2.2.2.2.2.2.1 hI0.1
    exact h_recount L.nou hW.2.2.2.2.2.2.2.2.2.2.2.2.2.2.2 h w o p0 hRel.top hc
  · rintro v z ⟨r, σ', h1, h2, h3⟩
    exact ⟨r, σ', h1, OpEnd.of t2_r hI (fun ht => let ⟨a, b⟩ := t2_z ht; ⟨rfl, hI.recount a b⟩) h2, h3⟩

set_option maxHeartbeats 4000000 in
theorem op_isSettled {Γ : GG} {K : KK} {l : Launch} {N0 N1 N3 o mm ou : Nat} {adm : Nat → Nat} (hfl : l.stackTraces = false) (L : Lie N0 N1 N3 o mm ou adm) (hW : Wd (GE Γ N3) (ACo N0 N1 N3) K) {σ : MM} {T : Nat} (hT : T < 64) (hI : Inv σ T) (p0 : Int) (hp0 : RR p0) : OPs True Γ K l N0 N1 N3 o mm ou adm σ T yX0_isSettled (wsW_ yX0_isSettled cX0_isSettled 4 (some .int) [(0, 16, 19, 13)]) (10 + 1) 8 30 [.ref o, IV p0, .ref ou] yX2_isSettled (ws_ yX2_isSettled cX2_isSettled 2 (some .boolean)) 4 [.ref mm, IV p0] := by
  have hI0 := hI.at0
  refine ⟨(t1 (isS σ p0)), (bI (σ.2 32 p0.toNat ≠ -1)), (σ0 σ), t1_r, fun _ => (bI_01 _), fun w => PL.help L (fun h ad hR => ?_), fun σc w => Ct.mapQ (PL.ref L (m_isSettled σ p0 hp0 hI.1.1)) ?_⟩
  · have hRel := hR
    have hc := c_isSettled h hfl hW.1 hW.2.1 hW.2.2.1 hW.2.2.2.1 hW.2.2.2.2.1 o ad (σ0 σ) hRel hI0.1.1 p0 hp0 hW.2.2.2.2.2.2.2.1 hI0.1
    exact h_isSettled L.nou hW.2.2.2.2.2.2.2.2.2.2.2.2.2.2.2 h w o p0 hRel.top (bI_01 _) hc
  · rintro v z ⟨r, σ', h1, h2, h3⟩
    exact ⟨r, σ', h1, OpEnd.of t1_r hI (fun ht => ⟨rfl, hI.same⟩) h2, h3⟩

set_option maxHeartbeats 4000000 in
theorem op_numberOf {Γ : GG} {K : KK} {l : Launch} {N0 N1 N3 o mm ou : Nat} {adm : Nat → Nat} (hfl : l.stackTraces = false) (L : Lie N0 N1 N3 o mm ou adm) (hW : Wd (GE Γ N3) (ACo N0 N1 N3) K) {σ : MM} {T : Nat} (hT : T < 64) (hI : Inv σ T) (p0 : Int) (p1 : Int) (hp0 : RR p0) (hp1 : RR p1) : OPs False Γ K l N0 N1 N3 o mm ou adm σ T yX0_numberOf (wsW_ yX0_numberOf cX0_numberOf 5 (some .int) [(0, 10, 13, 13), (0, 10, 17, 15)]) (10 + 1) 8 30 [.ref o, IV p0, IV p1, .ref ou] yX2_numberOf (ws_ yX2_numberOf cX2_numberOf 3 (some .int)) 4 [.ref mm, IV p0, IV p1] := by
  have hI0 := hI.at0
  refine ⟨(t2 (isS σ p0) (0 ≤ p1 ∧ p1 ≤ 5)), (if σ.2 32 p0.toNat = -1 then -1 else σ.2 29 (6 * σ.2 32 p0.toNat + p1).toNat), (σ0 σ), t2_r, fun z => z.elim, fun w => PL.help L (fun h ad hR => ?_), fun σc w => Ct.mapQ (PL.ref L (m_numberOf σ p0 p1 hp0 hp1 hI.1.1)) ?_⟩
  · have hRel := hR
    have hc := c_numberOf h hfl hW.1 hW.2.1 hW.2.2.1 hW.2.2.2.1 hW.2.2.2.2.1 o ad (σ0 σ) hRel hI0.1.1 p0 hp0 p1 hp1 hW.2.2.2.2.2.2.2.1 hI0.1
    exact h_numberOf L.nou hW.2.2.2.2.2.2.2.2.2.2.2.2.2.2.2 h w o p0 p1 hRel.top hc
  · rintro v z ⟨r, σ', h1, h2, h3⟩
    exact ⟨r, σ', h1, OpEnd.of t2_r hI (fun ht => ⟨rfl, hI.same⟩) h2, h3⟩

set_option maxHeartbeats 4000000 in
theorem op_misread {Γ : GG} {K : KK} {l : Launch} {N0 N1 N3 o mm ou : Nat} {adm : Nat → Nat} (hfl : l.stackTraces = false) (L : Lie N0 N1 N3 o mm ou adm) (hW : Wd (GE Γ N3) (ACo N0 N1 N3) K) {σ : MM} {T : Nat} (hT : T < 64) (hI : Inv σ T) (p0 : Int) (hp0 : RR p0) : OPs False Γ K l N0 N1 N3 o mm ou adm σ T yX0_misread (wsW_ yX0_misread cX0_misread 4 (some .int) [(0, 9, 12, 13)]) (10 + 1) 10 40 [.ref o, IV p0, .ref ou] yX2_misread (ws_ yX2_misread cX2_misread 5 (some .int)) 4 [.ref mm, IV p0] := by
  have hI0 := hI.at0
  refine ⟨(t1 (isS σ p0)), (if σ.2 32 p0.toNat = -1 then -1 else sMis σ p0 6), (σ0 σ), t1_r, fun z => z.elim, fun w => PL.help L (fun h ad hR => ?_), fun σc w => Ct.mapQ (PL.ref L (m_misread σ p0 hp0 hI.1.1)) ?_⟩
  · have hRel := hR
    have hc := c_misread h hfl hW.1 hW.2.1 hW.2.2.1 hW.2.2.2.1 hW.2.2.2.2.1 o ad (σ0 σ) hRel hI0.1.1 p0 hp0 hW.2.2.2.2.2.2.2.1 hI0.1 hW.2.2.2.2.2.1 hW.2.2.2.2.2.2.1
    rw [sMis_0] at hc
    exact h_misread L.nou hW.2.2.2.2.2.2.2.2.2.2.2.2.2.2.2 h w o p0 hRel.top hc
  · rintro v z ⟨r, σ', h1, h2, h3⟩
    exact ⟨r, σ', h1, OpEnd.of t1_r hI (fun ht => ⟨rfl, hI.same⟩) h2, h3⟩

set_option maxHeartbeats 4000000 in
theorem op_votes {Γ : GG} {K : KK} {l : Launch} {N0 N1 N3 o mm ou : Nat} {adm : Nat → Nat} (hfl : l.stackTraces = false) (L : Lie N0 N1 N3 o mm ou adm) (hW : Wd (GE Γ N3) (ACo N0 N1 N3) K) {σ : MM} {T : Nat} (hT : T < 64) (hI : Inv σ T) (p0 : Int) (hp0 : RR p0) : OPs False Γ K l N0 N1 N3 o mm ou adm σ T yX0_votes (wsW_ yX0_votes cX0_votes 4 (some .int) [(0, 9, 12, 13)]) (12 + 1) 22 130 [.ref o, IV p0, .ref ou] yX2_votes (ws_ yX2_votes cX2_votes 2 (some .int)) 5 [.ref mm, IV p0] := by
  have hI0 := hI.at0
  refine ⟨(t1 (0 ≤ p0 ∧ p0 ≤ 4)), (if σ.1 14 = 5 then sVo (σ0 σ) 0 p0.toNat else -1), (σ0 σ), t1_r, fun z => z.elim, fun w => PL.help L (fun h ad hR => ?_), fun σc w => Ct.mapQ (PL.ref L (m_votes σ p0 hp0 hI.1.1 hI.1)) ?_⟩
  · have hRel := hR
    have hc := c_votes h hfl hW.1 hW.2.1 hW.2.2.1 hW.2.2.2.1 hW.2.2.2.2.1 o ad (σ0 σ) hRel hI0.1.1 p0 hp0 hW.2.2.2.2.2.1 hW.2.2.2.2.2.2.1 hW.2.2.2.2.2.2.2.1 hI0.1
    exact h_votes L.nou hW.2.2.2.2.2.2.2.2.2.2.2.2.2.2.2 h w o p0 hRel.top hc
  · rintro v z ⟨r, σ', h1, h2, h3⟩
    exact ⟨r, σ', h1, OpEnd.ofG t1_r hI h2, h3⟩

set_option maxHeartbeats 4000000 in
theorem op_seats {Γ : GG} {K : KK} {l : Launch} {N0 N1 N3 o mm ou : Nat} {adm : Nat → Nat} (hfl : l.stackTraces = false) (L : Lie N0 N1 N3 o mm ou adm) (hW : Wd (GE Γ N3) (ACo N0 N1 N3) K) {σ : MM} {T : Nat} (hT : T < 64) (hI : Inv σ T) (p0 : Int) (hp0 : RR p0) : OPs False Γ K l N0 N1 N3 o mm ou adm σ T yX0_seats (wsW_ yX0_seats cX0_seats 4 (some .int) [(0, 9, 12, 13)]) (12 + 1) 22 130 [.ref o, IV p0, .ref ou] yX2_seats (ws_ yX2_seats cX2_seats 2 (some .int)) 5 [.ref mm, IV p0] := by
  have hI0 := hI.at0
  refine ⟨(t1 (0 ≤ p0 ∧ p0 ≤ 4)), (if σ.1 14 = 5 then (sHo (σ0 σ) 0).1 p0.toNat else -1), (σ0 σ), t1_r, fun z => z.elim, fun w => PL.help L (fun h ad hR => ?_), fun σc w => Ct.mapQ (PL.ref L (m_seats σ p0 hp0 hI.1.1 hI.1)) ?_⟩
  · have hRel := hR
    have hc := c_seats h hfl hW.1 hW.2.1 hW.2.2.1 hW.2.2.2.1 hW.2.2.2.2.1 o ad (σ0 σ) hRel hI0.1.1 p0 hp0 hW.2.2.2.2.2.1 hW.2.2.2.2.2.2.1 hW.2.2.2.2.2.2.2.1 hI0.1
    exact h_seats L.nou hW.2.2.2.2.2.2.2.2.2.2.2.2.2.2.2 h w o p0 hRel.top hc
  · rintro v z ⟨r, σ', h1, h2, h3⟩
    exact ⟨r, σ', h1, OpEnd.ofG t1_r hI h2, h3⟩

set_option maxHeartbeats 4000000 in
theorem op_seatAt {Γ : GG} {K : KK} {l : Launch} {N0 N1 N3 o mm ou : Nat} {adm : Nat → Nat} (hfl : l.stackTraces = false) (L : Lie N0 N1 N3 o mm ou adm) (hW : Wd (GE Γ N3) (ACo N0 N1 N3) K) {σ : MM} {T : Nat} (hT : T < 64) (hI : Inv σ T) (p0 : Int) (hp0 : RR p0) : OPs False Γ K l N0 N1 N3 o mm ou adm σ T yX0_seatAt (wsW_ yX0_seatAt cX0_seatAt 4 (some .int) [(0, 9, 12, 13)]) (12 + 1) 22 130 [.ref o, IV p0, .ref ou] yX2_seatAt (ws_ yX2_seatAt cX2_seatAt 2 (some .int)) 5 [.ref mm, IV p0] := by
  have hI0 := hI.at0
  refine ⟨(t1 (0 ≤ p0)), (if σ.1 14 = 5 ∧ p0 < sHn (σ0 σ) 0 then (sHo (σ0 σ) 0).2.1 p0.toNat else -1), (σ0 σ), t1_r, fun z => z.elim, fun w => PL.help L (fun h ad hR => ?_), fun σc w => Ct.mapQ (PL.ref L (m_seatAt σ p0 hp0 hI.1.1 hI.1)) ?_⟩
  · have hRel := hR
    have hc := c_seatAt h hfl hW.1 hW.2.1 hW.2.2.1 hW.2.2.2.1 hW.2.2.2.2.1 o ad (σ0 σ) hRel hI0.1.1 p0 hp0 hW.2.2.2.2.2.1 hW.2.2.2.2.2.2.1 hW.2.2.2.2.2.2.2.1 hI0.1
    exact h_seatAt L.nou hW.2.2.2.2.2.2.2.2.2.2.2.2.2.2.2 h w o p0 hRel.top hc
  · rintro v z ⟨r, σ', h1, h2, h3⟩
    exact ⟨r, σ', h1, OpEnd.ofG t1_r hI h2, h3⟩

set_option maxHeartbeats 4000000 in
theorem op_seatsByBallots {Γ : GG} {K : KK} {l : Launch} {N0 N1 N3 o mm ou : Nat} {adm : Nat → Nat} (hfl : l.stackTraces = false) (L : Lie N0 N1 N3 o mm ou adm) (hW : Wd (GE Γ N3) (ACo N0 N1 N3) K) {σ : MM} {T : Nat} (hT : T < 64) (hI : Inv σ T) (p0 : Int) (hp0 : RR p0) : OPs False Γ K l N0 N1 N3 o mm ou adm σ T yX0_seatsByBallots (wsW_ yX0_seatsByBallots cX0_seatsByBallots 4 (some .int) [(0, 9, 12, 13)]) (12 + 1) 22 130 [.ref o, IV p0, .ref ou] yX2_seatsByBallots (ws_ yX2_seatsByBallots cX2_seatsByBallots 2 (some .int)) 5 [.ref mm, IV p0] := by
  have hI0 := hI.at0
  refine ⟨(t1 (0 ≤ p0 ∧ p0 ≤ 4)), (if σ.1 14 < 4 then -1 else (sHo (σ0 σ) 1).1 p0.toNat), (σ0 σ), t1_r, fun z => z.elim, fun w => PL.help L (fun h ad hR => ?_), fun σc w => Ct.mapQ (PL.ref L (m_seatsBy σ p0 hp0 hI.1.1 hI.1)) ?_⟩
  · have hRel := hR
    have hc := c_seatsBy h hfl hW.1 hW.2.1 hW.2.2.1 hW.2.2.2.1 hW.2.2.2.2.1 o ad (σ0 σ) hRel hI0.1.1 p0 hp0 hW.2.2.2.2.2.1 hW.2.2.2.2.2.2.1 hW.2.2.2.2.2.2.2.1 hI0.1
    exact h_seatsByBallots L.nou hW.2.2.2.2.2.2.2.2.2.2.2.2.2.2.2 h w o p0 hRel.top hc
  · rintro v z ⟨r, σ', h1, h2, h3⟩
    exact ⟨r, σ', h1, OpEnd.ofG t1_r hI h2, h3⟩

