set_option maxRecDepth 100000
set_option maxHeartbeats 4000000 in
theorem od_today {Γ : GG} {K : KK} {l : Launch} {N0 N1 N3 o mm ou : Nat} {adm : Nat → Nat} (L : Lie N0 N1 N3 o mm ou adm) (hW : Wd (GE Γ N3) (ACo N0 N1 N3) K) {σ : MM} {T : Nat} (hI : Inv σ T) : ∃ res : Int, (∀ w, Ct Γ (Af N0) RP l yX1_today (ws_ yX1_today cX1_today 1 (some .int)) 1 0 0 [.ref o] (PL Γ K N0 N1 N3 o mm ou adm (σ0 σ) σ w) (fun v P => v = some (IV res) ∧ P = PL Γ K N0 N1 N3 o mm ou adm (σ0 σ) σ w) X0) ∧ ∀ w, Ct Γ (Af N0) RP l yX2_today (ws_ yX2_today cX2_today 1 (some .int)) 2 0 0 [.ref mm] (PL Γ K N0 N1 N3 o mm ou adm (σ0 σ) σ w) (fun v P => ∃ (r : Int) (σ' : MM), v = some (IV r) ∧ OpEnd (σ0 σ) 0 res T r σ' ∧ P = PL Γ K N0 N1 N3 o mm ou adm (σ0 σ) σ' w) X0 := by
  have hI0 := hI.at0
  refine ⟨σ.1 0, fun w => PL.comp L (fun h ad hR => Ct.mapQ (c_today h o ad (σ0 σ) hR hI0.1.1) ?_), fun w => Ct.mapQ (PL.ref L (m_g0 σ hI.1.1)) ?_⟩
  · rintro v z ⟨r, e, h1, h2⟩
    exact ⟨r, e, h1, ad, by rw [h2]; exact hR⟩
  · rintro v z ⟨r, σ', h1, h2, h3⟩
    refine ⟨r, σ', h1, ⟨fun _ => h2.1, by rw [h2.2]; rfl, by rw [h2.2]; exact hI.same, fun k _ _ _ => by rw [h2.2], fun k _ _ _ => by rw [h2.2]⟩, h3⟩

set_option maxHeartbeats 4000000 in
theorem od_stage {Γ : GG} {K : KK} {l : Launch} {N0 N1 N3 o mm ou : Nat} {adm : Nat → Nat} (L : Lie N0 N1 N3 o mm ou adm) (hW : Wd (GE Γ N3) (ACo N0 N1 N3) K) {σ : MM} {T : Nat} (hI : Inv σ T) : ∃ res : Int, (∀ w, Ct Γ (Af N0) RP l yX1_stage (ws_ yX1_stage cX1_stage 1 (some .int)) 1 0 0 [.ref o] (PL Γ K N0 N1 N3 o mm ou adm (σ0 σ) σ w) (fun v P => v = some (IV res) ∧ P = PL Γ K N0 N1 N3 o mm ou adm (σ0 σ) σ w) X0) ∧ ∀ w, Ct Γ (Af N0) RP l yX2_stage (ws_ yX2_stage cX2_stage 1 (some .int)) 2 0 0 [.ref mm] (PL Γ K N0 N1 N3 o mm ou adm (σ0 σ) σ w) (fun v P => ∃ (r : Int) (σ' : MM), v = some (IV r) ∧ OpEnd (σ0 σ) 0 res T r σ' ∧ P = PL Γ K N0 N1 N3 o mm ou adm (σ0 σ) σ' w) X0 := by
  have hI0 := hI.at0
  refine ⟨σ.1 14, fun w => PL.comp L (fun h ad hR => Ct.mapQ (c_stage h o ad (σ0 σ) hR hI0.1.1) ?_), fun w => Ct.mapQ (PL.ref L (m_g14 σ hI.1.1)) ?_⟩
  · rintro v z ⟨r, e, h1, h2⟩
    exact ⟨r, e, h1, ad, by rw [h2]; exact hR⟩
  · rintro v z ⟨r, σ', h1, h2, h3⟩
    refine ⟨r, σ', h1, ⟨fun _ => h2.1, by rw [h2.2]; rfl, by rw [h2.2]; exact hI.same, fun k _ _ _ => by rw [h2.2], fun k _ _ _ => by rw [h2.2]⟩, h3⟩

set_option maxHeartbeats 4000000 in
theorem od_envelopes {Γ : GG} {K : KK} {l : Launch} {N0 N1 N3 o mm ou : Nat} {adm : Nat → Nat} (L : Lie N0 N1 N3 o mm ou adm) (hW : Wd (GE Γ N3) (ACo N0 N1 N3) K) {σ : MM} {T : Nat} (hI : Inv σ T) : ∃ res : Int, (∀ w, Ct Γ (Af N0) RP l yX1_envelopes (ws_ yX1_envelopes cX1_envelopes 1 (some .int)) 2 0 0 [.ref o] (PL Γ K N0 N1 N3 o mm ou adm (σ0 σ) σ w) (fun v P => v = some (IV res) ∧ P = PL Γ K N0 N1 N3 o mm ou adm (σ0 σ) σ w) X0) ∧ ∀ w, Ct Γ (Af N0) RP l yX2_envelopes (ws_ yX2_envelopes cX2_envelopes 1 (some .int)) 2 0 0 [.ref mm] (PL Γ K N0 N1 N3 o mm ou adm (σ0 σ) σ w) (fun v P => ∃ (r : Int) (σ' : MM), v = some (IV r) ∧ OpEnd (σ0 σ) 0 res T r σ' ∧ P = PL Γ K N0 N1 N3 o mm ou adm (σ0 σ) σ' w) X0 := by
  have hI0 := hI.at0
  refine ⟨σ.1 26, fun w => PL.comp L (fun h ad hR => Ct.mapQ (c_envelopes h hW.2.1 o ad (σ0 σ) hR hI0.1.1 hI0.1) ?_), fun w => Ct.mapQ (PL.ref L (m_g26 σ hI.1.1)) ?_⟩
  · rintro v z ⟨r, e, h1, h2⟩
    exact ⟨r, e, h1, ad, by rw [h2]; exact hR⟩
  · rintro v z ⟨r, σ', h1, h2, h3⟩
    refine ⟨r, σ', h1, ⟨fun _ => h2.1, by rw [h2.2]; rfl, by rw [h2.2]; exact hI.same, fun k _ _ _ => by rw [h2.2], fun k _ _ _ => by rw [h2.2]⟩, h3⟩

set_option maxHeartbeats 4000000 in
theorem od_lots {Γ : GG} {K : KK} {l : Launch} {N0 N1 N3 o mm ou : Nat} {adm : Nat → Nat} (L : Lie N0 N1 N3 o mm ou adm) (hW : Wd (GE Γ N3) (ACo N0 N1 N3) K) {σ : MM} {T : Nat} (hI : Inv σ T) : ∃ res : Int, (∀ w, Ct Γ (Af N0) RP l yX1_lots (ws_ yX1_lots cX1_lots 2 (some .int)) 12 22 130 [.ref o] (PL Γ K N0 N1 N3 o mm ou adm (σ0 σ) σ w) (fun v P => v = some (IV res) ∧ P = PL Γ K N0 N1 N3 o mm ou adm (σ0 σ) σ w) X0) ∧ ∀ w, Ct Γ (Af N0) RP l yX2_lots (ws_ yX2_lots cX2_lots 1 (some .int)) 5 0 0 [.ref mm] (PL Γ K N0 N1 N3 o mm ou adm (σ0 σ) σ w) (fun v P => ∃ (r : Int) (σ' : MM), v = some (IV r) ∧ OpEnd (σ0 σ) 0 res T r σ' ∧ P = PL Γ K N0 N1 N3 o mm ou adm (σ0 σ) σ' w) X0 := by
  have hI0 := hI.at0
  refine ⟨(if σ.1 14 = 5 then (sHo (σ0 σ) 0).2.2.1 else -1), fun w => PL.comp L (fun h ad hR => Ct.mapQ (c_lots h hW.1 hW.2.1 hW.2.2.2.2.2.1 hW.2.2.2.2.2.2.1 hW.2.2.2.2.2.2.2.1 o ad (σ0 σ) hR hI0.1.1 hI0.1) ?_), fun w => Ct.mapQ (PL.ref L (m_lots σ hI.1.1 hI.1)) ?_⟩
  · rintro v z ⟨r, e, h1, h2⟩
    exact ⟨r, e, h1, ad, h2⟩
  · rintro v z ⟨r, σ', h1, h2, h3⟩
    have h4 := OpEnd.ofG (by omega) hI h2
    rw [ite_self] at h4
    exact ⟨r, σ', h1, h4, h3⟩

set_option maxHeartbeats 4000000 in
theorem od_notes {Γ : GG} {K : KK} {l : Launch} {N0 N1 N3 o mm ou : Nat} {adm : Nat → Nat} (L : Lie N0 N1 N3 o mm ou adm) (hW : Wd (GE Γ N3) (ACo N0 N1 N3) K) {σ : MM} {T : Nat} (hI : Inv σ T) : ∃ res : Int, (∀ w, Ct Γ (Af N0) RP l yX1_notes (ws_ yX1_notes cX1_notes 1 (some .int)) 2 0 0 [.ref o] (PL Γ K N0 N1 N3 o mm ou adm (σ0 σ) σ w) (fun v P => v = some (IV res) ∧ P = PL Γ K N0 N1 N3 o mm ou adm (σ0 σ) σ w) X0) ∧ ∀ w, Ct Γ (Af N0) RP l yX2_notes_2 (ws_ yX2_notes_2 cX2_notes_2 1 (some .int)) 2 0 0 [.ref mm] (PL Γ K N0 N1 N3 o mm ou adm (σ0 σ) σ w) (fun v P => ∃ (r : Int) (σ' : MM), v = some (IV r) ∧ OpEnd (σ0 σ) 0 res T r σ' ∧ P = PL Γ K N0 N1 N3 o mm ou adm (σ0 σ) σ' w) X0 := by
  have hI0 := hI.at0
  refine ⟨σ.1 42, fun w => PL.comp L (fun h ad hR => Ct.mapQ (c_notes h hW.2.1 o ad (σ0 σ) hR hI0.1.1 hI0.2.2.1) ?_), fun w => Ct.mapQ (PL.ref L (m_g42 σ hI.1.1)) ?_⟩
  · rintro v z ⟨r, e, h1, h2⟩
    exact ⟨r, e, h1, ad, by rw [h2]; exact hR⟩
  · rintro v z ⟨r, σ', h1, h2, h3⟩
    refine ⟨r, σ', h1, ⟨fun _ => h2.1, by rw [h2.2]; rfl, by rw [h2.2]; exact hI.same, fun k _ _ _ => by rw [h2.2], fun k _ _ _ => by rw [h2.2]⟩, h3⟩

theorem md_yX0_bar : MD yX0_bar 5 := by decide +kernel
theorem md_yX2_bar : MD yX2_bar 3 := by decide +kernel
theorem md_yX2_thrown : MD yX2_thrown 0 := by decide +kernel
set_option maxHeartbeats 4000000 in
theorem lc_0 {Γ : GG} {K : KK} {l : Launch} {N0 N1 N3 o mm ou : Nat} {adm : Nat → Nat} {b LL : Nat} {xs : Nat → Int32} {QP : Option Value → (Heap → Prop) → Prop} {mc ms b8 c8 b9 c9 : Nat} (hfl : l.stackTraces = false) (L : Lie N0 N1 N3 o mm ou adm) (hW : Wd (GE Γ N3) (ACo N0 N1 N3) K) (hX : ∀ (s : State) (H : Heap), Γ.2.2 s H → va_X b LL xs s H) (hbA : ¬ Af N0 b) (hLL : LL ≤ 256) {σ : MM} {T : Nat} (hT : T < 64) (hI : Inv σ T) {w i : Int} (hi : 0 ≤ i ∧ i + 4 ≤ (LL : Int)) (hb : b8 + 300 ≤ b9) (hc : c8 + 36400 ≤ c9) (kk : ∀ (σ' : MM) (w' : Int), Inv σ' (T + 1) → J Γ (Af N0) RP l RX0 "law" cL_law 7 (some .boolean) [] 20 mc ms QP X0 b8 c8 (PL Γ K N0 N1 N3 o mm ou adm σ' σ' w') 2280 [some (.ref b), some (.ref o), some (.ref mm), some (.ref ou), some (IV i), none, none] []) : J Γ (Af N0) RP l RX0 "law" cL_law 7 (some .boolean) [] 20 mc ms QP X0 b9 c9 (PL Γ K N0 N1 N3 o mm ou adm σ σ w) 196 [some (.ref b), some (.ref o), some (.ref mm), some (.ref ou), some (IV i), none, none] [] := by
  refine jp_wk (fun H h => PL.at0 h) ?_
  obtain ⟨p0, hp0⟩ : ∃ p : Int, p = (xs (i + 1).toNat).toInt := ⟨_, rfl⟩
  have r0 : RR p0 := by rw [hp0]; exact rrI _
  obtain ⟨p1, hp1⟩ : ∃ p : Int, p = (xs (i + 2).toNat).toInt := ⟨_, rfl⟩
  have r1 : RR p1 := by rw [hp1]; exact rrI _
  obtain ⟨p2, hp2⟩ : ∃ p : Int, p = (xs (i + 3).toNat).toInt := ⟨_, rfl⟩
  have r2 : RR p2 := by rw [hp2]; exact rrI _
  obtain ⟨pb, hpb⟩ : ∃ p : Int, p = bI (¬ p2 = 0) := ⟨_, rfl⟩
  have hb2 : pb = 0 ∨ pb = 1 := by rw [hpb]; exact bI_01 _
  obtain ⟨t, res, fin, ht, hz, hC, hM⟩ := op_bar (l := l) hfl L hW hT hI p0 p1 pb r0 r1 (by omega) hb2
  have hS9 : ∀ (c : Nat), c ≤ 36400 → c8 + c ≤ c9 := fun c h => by omega
  refine j_aload_n (pc := 196) dL_law_196 rfl ?_
  refine j_aload_n (pc := 197) dL_law_197 rfl ?_
  refine j_iload (pc := 198) dL_law_198 rfl ?_
  refine j_iconst (pc := 200) dL_law_200 rfl ?_
  refine j_iadd (pc := 201) dL_law_201 ?_
  refine j_sld (pc := 202) hX hbA (by omega) (by omega) dL_law_202 ?_
  rw [← hp0]
  refine j_aload_n (pc := 203) dL_law_203 rfl ?_
  refine j_iload (pc := 204) dL_law_204 rfl ?_
  refine j_iconst (pc := 206) dL_law_206 rfl ?_
  refine j_iadd (pc := 207) dL_law_207 ?_
  refine j_sld (pc := 208) hX hbA (by omega) (by omega) dL_law_208 ?_
  rw [← hp1]
  refine j_aload_n (pc := 209) dL_law_209 rfl ?_
  refine j_iload (pc := 210) dL_law_210 rfl ?_
  refine j_iconst (pc := 212) dL_law_212 rfl ?_
  refine j_iadd (pc := 213) dL_law_213 ?_
  refine j_sld (pc := 214) hX hbA (by omega) (by omega) dL_law_214 ?_
  rw [← hp2]
  have hj : J Γ (Af N0) RP l RX0 "law" cL_law 7 (some .boolean) [] 20 mc ms QP X0 b9 c9 (PL Γ K N0 N1 N3 o mm ou adm (σ0 σ) σ w) 223 [some (.ref b), some (.ref o), some (.ref mm), some (.ref ou), some (IV i), none, none] [IV pb, IV p1, IV p0, .ref o] := by
    refine j_aload_n (pc := 223) dL_law_223 rfl ?_
    refine j_room (cl' := b8 + 3) (sl' := c8 + 16) (by omega) (hS9 16 (by decide)) ?_
    refine j_callSW (pc := 224) (As := [.ref o, IV p0, IV p1, IV pb, .ref ou]) (rest := []) (hC w) (lw_SW q285 q286 q43 q287) md_yX0_bar (by decide) (by decide) rfl (Nat.le_of_ble_eq_true rfl) dL_law_224 (fun v P hq => ?_)
    obtain ⟨w1, rfl, hw1, rfl⟩ := hq
    refine j_istore (pc := 227) dL_law_227 (by decide) (lo' := [some (.ref b), some (.ref o), some (.ref mm), some (.ref ou), some (IV i), some (IV t), none]) rfl ?_
    refine j_aload_n (pc := 229) dL_law_229 rfl ?_
    refine j_aload_n (pc := 230) dL_law_230 rfl ?_
    refine j_iload (pc := 231) dL_law_231 rfl ?_
    refine j_iconst (pc := 233) dL_law_233 rfl ?_
    refine j_iadd (pc := 234) dL_law_234 ?_
    refine j_sld (pc := 235) hX hbA (by omega) (by omega) dL_law_235 ?_
    rw [← hp0]
    refine j_aload_n (pc := 236) dL_law_236 rfl ?_
    refine j_iload (pc := 237) dL_law_237 rfl ?_
    refine j_iconst (pc := 239) dL_law_239 rfl ?_
    refine j_iadd (pc := 240) dL_law_240 ?_
    refine j_sld (pc := 241) hX hbA (by omega) (by omega) dL_law_241 ?_
    rw [← hp1]
    refine j_aload_n (pc := 242) dL_law_242 rfl ?_
    refine j_iload (pc := 243) dL_law_243 rfl ?_
    refine j_iconst (pc := 245) dL_law_245 rfl ?_
    refine j_iadd (pc := 246) dL_law_246 ?_
    refine j_sld (pc := 247) hX hbA (by omega) (by omega) dL_law_247 ?_
    rw [← hp2]
    have hj : J Γ (Af N0) RP l RX0 "law" cL_law 7 (some .boolean) [] 20 mc ms QP X0 b8 c8 (PL Γ K N0 N1 N3 o mm ou adm (if t = 0 then fin else σ0 σ) σ w1) 256 [some (.ref b), some (.ref o), some (.ref mm), some (.ref ou), some (IV i), some (IV t), none] [IV pb, IV p1, IV p0, .ref mm] := by
      refine j_room (cl' := b8 + 0) (sl' := c8 + 0) (by omega) (by omega) ?_
      refine j_callV (pc := 256) (As := [IV p0, IV p1, IV pb]) (rest := []) (hM _ _) (lw_V q1525 q1526 q1527 q48 q1528) rfl md_yX2_bar PL.rcM (by decide) (by decide) rfl (Nat.le_of_ble_eq_true rfl) dL_law_256 (fun v P hq => ?_)
      obtain ⟨r, σ', rfl, hE, rfl⟩ := hq
      refine j_istore (pc := 259) dL_law_259 (by decide) (lo' := [some (.ref b), some (.ref o), some (.ref mm), some (.ref ou), some (IV i), some (IV t), some (IV r)]) rfl ?_
      refine j_aload_n (pc := 261) dL_law_261 rfl ?_
      refine j_room (cl' := b8 + 0) (sl' := c8 + 0) (by omega) (by omega) ?_
      refine j_callV (pc := 262) (As := []) (rest := []) (PL.ref L (m_thrown σ' hE.2.2.1.1.1)) (lw_V q1521 q1522 q1523 q48 q1524) rfl md_yX2_thrown PL.rcM (by decide) (by decide) rfl (Nat.le_of_ble_eq_true rfl) dL_law_262 (fun v P hq => ?_)
      obtain ⟨r2', σ2, rfl, ⟨e1, e2⟩, rfl⟩ := hq
      rw [e2, e1, hE.2.1]
      refine j_iload (pc := 265) dL_law_265 rfl ?_
      refine j_icmp_eq (pc := 267) (tgt := 272) dL_law_267 (by decide) (by omega) (by omega) (fun c => ?_) (fun c => absurd rfl c)
      refine j_iload (pc := 272) dL_law_272 rfl ?_
      refine j_if_ne (pc := 274) (tgt := 296) dL_law_274 (by decide) (by omega) (fun c => ?_) (fun c => ?_)
      · refine j_goto (pc := 296) (tgt := 2280) dL_law_296 (by decide) ?_
        refine j_sub (lo' := [some (.ref b), some (.ref o), some (.ref mm), some (.ref ou), some (IV i), none, none]) ⟨Or.inr rfl, Or.inr rfl, Or.inr rfl, Or.inr rfl, Or.inr rfl, Or.inl rfl, Or.inl rfl, trivial⟩ ?_
        refine j_room (cl' := b8) (sl' := c8) (by omega) (by omega) ?_
        exact jp_wk (fun H h => PL.gs hE.2.2.2.1 hE.2.2.2.2 h) (kk σ' _ hE.2.2.1)
      · refine j_aload_n (pc := 277) dL_law_277 rfl ?_
        refine j_iconst (pc := 278) dL_law_278 rfl ?_
        refine jp_lald (pc := 279) PL.cw dL_law_279 ?_
        rw [hw1 c]
        refine j_iload (pc := 280) dL_law_280 rfl ?_
        rw [hE.1 c]
        have h01 := hz trivial
        refine j_if_eq (pc := 282) (tgt := 289) dL_law_282 (by decide) (by omega) (fun c2 => ?_) (fun c2 => ?_)
        · refine j_lconst (pc := 289) (v := Int64.ofInt 0) dL_law_289 rfl ?_
          rw [show (iI res).toInt = 0 from by rw [show res = 0 from by omega]; rfl]
          refine j_lcmpE (pc := 290) dL_law_290 ?_
          refine j_if_eq (pc := 291) (tgt := 296) dL_law_291 (by decide) (by decide) (fun c9 => ?_) (fun c9 => absurd rfl c9)
          refine j_goto (pc := 296) (tgt := 2280) dL_law_296 (by decide) ?_
          refine j_sub (lo' := [some (.ref b), some (.ref o), some (.ref mm), some (.ref ou), some (IV i), none, none]) ⟨Or.inr rfl, Or.inr rfl, Or.inr rfl, Or.inr rfl, Or.inr rfl, Or.inl rfl, Or.inl rfl, trivial⟩ ?_
          refine j_room (cl' := b8) (sl' := c8) (by omega) (by omega) ?_
          exact jp_wk (fun H h => PL.gs hE.2.2.2.1 hE.2.2.2.2 h) (kk σ' _ hE.2.2.1)
        · refine j_lconst (pc := 285) (v := Int64.ofInt 1) dL_law_285 rfl ?_
          refine j_goto (pc := 286) (tgt := 290) dL_law_286 (by decide) ?_
          rw [show (iI res).toInt = 1 from by rw [show res = 1 from by omega]; rfl]
          refine j_lcmpE (pc := 290) dL_law_290 ?_
          refine j_if_eq (pc := 291) (tgt := 296) dL_law_291 (by decide) (by decide) (fun c9 => ?_) (fun c9 => absurd rfl c9)
          refine j_goto (pc := 296) (tgt := 2280) dL_law_296 (by decide) ?_
          refine j_sub (lo' := [some (.ref b), some (.ref o), some (.ref mm), some (.ref ou), some (IV i), none, none]) ⟨Or.inr rfl, Or.inr rfl, Or.inr rfl, Or.inr rfl, Or.inr rfl, Or.inl rfl, Or.inl rfl, trivial⟩ ?_
          refine j_room (cl' := b8) (sl' := c8) (by omega) (by omega) ?_
          exact jp_wk (fun H h => PL.gs hE.2.2.2.1 hE.2.2.2.2 h) (kk σ' _ hE.2.2.1)
    refine j_if_eq (pc := 248) (tgt := 255) dL_law_248 (by decide) r2 (fun c => ?_) (fun c => ?_)
    · refine j_iconst (pc := 255) dL_law_255 rfl ?_
      rw [show pb = 0 from by rw [hpb]; exact if_neg (fun h => h c)] at hj
      exact hj
    · refine j_iconst (pc := 251) dL_law_251 rfl ?_
      refine j_goto (pc := 252) (tgt := 256) dL_law_252 (by decide) ?_
      rw [show pb = 1 from by rw [hpb]; exact if_pos c] at hj
      exact hj
  refine j_if_eq (pc := 215) (tgt := 222) dL_law_215 (by decide) r2 (fun c => ?_) (fun c => ?_)
  · refine j_iconst (pc := 222) dL_law_222 rfl ?_
    rw [show pb = 0 from by rw [hpb]; exact if_neg (fun h => h c)] at hj
    exact hj
  · refine j_iconst (pc := 218) dL_law_218 rfl ?_
    refine j_goto (pc := 219) (tgt := 223) dL_law_219 (by decide) ?_
    rw [show pb = 1 from by rw [hpb]; exact if_pos c] at hj
    exact hj

theorem md_yX0_way : MD yX0_way 4 := by decide +kernel
theorem md_yX2_way : MD yX2_way 2 := by decide +kernel
set_option maxHeartbeats 4000000 in
theorem lc_1 {Γ : GG} {K : KK} {l : Launch} {N0 N1 N3 o mm ou : Nat} {adm : Nat → Nat} {b LL : Nat} {xs : Nat → Int32} {QP : Option Value → (Heap → Prop) → Prop} {mc ms b8 c8 b9 c9 : Nat} (hfl : l.stackTraces = false) (L : Lie N0 N1 N3 o mm ou adm) (hW : Wd (GE Γ N3) (ACo N0 N1 N3) K) (hX : ∀ (s : State) (H : Heap), Γ.2.2 s H → va_X b LL xs s H) (hbA : ¬ Af N0 b) (hLL : LL ≤ 256) {σ : MM} {T : Nat} (hT : T < 64) (hI : Inv σ T) {w i : Int} (hi : 0 ≤ i ∧ i + 4 ≤ (LL : Int)) (hb : b8 + 300 ≤ b9) (hc : c8 + 36400 ≤ c9) (kk : ∀ (σ' : MM) (w' : Int), Inv σ' (T + 1) → J Γ (Af N0) RP l RX0 "law" cL_law 7 (some .boolean) [] 20 mc ms QP X0 b8 c8 (PL Γ K N0 N1 N3 o mm ou adm σ' σ' w') 2280 [some (.ref b), some (.ref o), some (.ref mm), some (.ref ou), some (IV i), none, none] []) : J Γ (Af N0) RP l RX0 "law" cL_law 7 (some .boolean) [] 20 mc ms QP X0 b9 c9 (PL Γ K N0 N1 N3 o mm ou adm σ σ w) 299 [some (.ref b), some (.ref o), some (.ref mm), some (.ref ou), some (IV i), none, none] [] := by
  refine jp_wk (fun H h => PL.at0 h) ?_
  obtain ⟨p0, hp0⟩ : ∃ p : Int, p = (xs (i + 1).toNat).toInt := ⟨_, rfl⟩
  have r0 : RR p0 := by rw [hp0]; exact rrI _
  obtain ⟨p1, hp1⟩ : ∃ p : Int, p = (xs (i + 2).toNat).toInt := ⟨_, rfl⟩
  have r1 : RR p1 := by rw [hp1]; exact rrI _
  obtain ⟨t, res, fin, ht, hz, hC, hM⟩ := op_way (l := l) hfl L hW hT hI p0 p1 r0 r1
  have hS9 : ∀ (c : Nat), c ≤ 36400 → c8 + c ≤ c9 := fun c h => by omega
  refine j_aload_n (pc := 299) dL_law_299 rfl ?_
  refine j_aload_n (pc := 300) dL_law_300 rfl ?_
  refine j_iload (pc := 301) dL_law_301 rfl ?_
  refine j_iconst (pc := 303) dL_law_303 rfl ?_
  refine j_iadd (pc := 304) dL_law_304 ?_
  refine j_sld (pc := 305) hX hbA (by omega) (by omega) dL_law_305 ?_
  rw [← hp0]
  refine j_aload_n (pc := 306) dL_law_306 rfl ?_
  refine j_iload (pc := 307) dL_law_307 rfl ?_
  refine j_iconst (pc := 309) dL_law_309 rfl ?_
  refine j_iadd (pc := 310) dL_law_310 ?_
  refine j_sld (pc := 311) hX hbA (by omega) (by omega) dL_law_311 ?_
  rw [← hp1]
  refine j_aload_n (pc := 312) dL_law_312 rfl ?_
  refine j_room (cl' := b8 + 2) (sl' := c8 + 10) (by omega) (hS9 10 (by decide)) ?_
  refine j_callSW (pc := 313) (As := [.ref o, IV p0, IV p1, .ref ou]) (rest := []) (hC w) (lw_SW q421 q422 q43 q423) md_yX0_way (by decide) (by decide) rfl (Nat.le_of_ble_eq_true rfl) dL_law_313 (fun v P hq => ?_)
  obtain ⟨w1, rfl, hw1, rfl⟩ := hq
  refine j_istore (pc := 316) dL_law_316 (by decide) (lo' := [some (.ref b), some (.ref o), some (.ref mm), some (.ref ou), some (IV i), some (IV t), none]) rfl ?_
  refine j_aload_n (pc := 318) dL_law_318 rfl ?_
  refine j_aload_n (pc := 319) dL_law_319 rfl ?_
  refine j_iload (pc := 320) dL_law_320 rfl ?_
  refine j_iconst (pc := 322) dL_law_322 rfl ?_
  refine j_iadd (pc := 323) dL_law_323 ?_
  refine j_sld (pc := 324) hX hbA (by omega) (by omega) dL_law_324 ?_
  rw [← hp0]
  refine j_aload_n (pc := 325) dL_law_325 rfl ?_
  refine j_iload (pc := 326) dL_law_326 rfl ?_
  refine j_iconst (pc := 328) dL_law_328 rfl ?_
  refine j_iadd (pc := 329) dL_law_329 ?_
  refine j_sld (pc := 330) hX hbA (by omega) (by omega) dL_law_330 ?_
  rw [← hp1]
  refine j_room (cl' := b8 + 0) (sl' := c8 + 0) (by omega) (by omega) ?_
  refine j_callV (pc := 331) (As := [IV p0, IV p1]) (rest := []) (hM _ _) (lw_V q1542 q1543 q1544 q48 q1545) rfl md_yX2_way PL.rcM (by decide) (by decide) rfl (Nat.le_of_ble_eq_true rfl) dL_law_331 (fun v P hq => ?_)
  obtain ⟨r, σ', rfl, hE, rfl⟩ := hq
  refine j_istore (pc := 334) dL_law_334 (by decide) (lo' := [some (.ref b), some (.ref o), some (.ref mm), some (.ref ou), some (IV i), some (IV t), some (IV r)]) rfl ?_
  refine j_aload_n (pc := 336) dL_law_336 rfl ?_
  refine j_room (cl' := b8 + 0) (sl' := c8 + 0) (by omega) (by omega) ?_
  refine j_callV (pc := 337) (As := []) (rest := []) (PL.ref L (m_thrown σ' hE.2.2.1.1.1)) (lw_V q1521 q1522 q1523 q48 q1524) rfl md_yX2_thrown PL.rcM (by decide) (by decide) rfl (Nat.le_of_ble_eq_true rfl) dL_law_337 (fun v P hq => ?_)
  obtain ⟨r2', σ2, rfl, ⟨e1, e2⟩, rfl⟩ := hq
  rw [e2, e1, hE.2.1]
  refine j_iload (pc := 340) dL_law_340 rfl ?_
  refine j_icmp_eq (pc := 342) (tgt := 347) dL_law_342 (by decide) (by omega) (by omega) (fun c => ?_) (fun c => absurd rfl c)
  refine j_iload (pc := 347) dL_law_347 rfl ?_
  refine j_if_ne (pc := 349) (tgt := 364) dL_law_349 (by decide) (by omega) (fun c => ?_) (fun c => ?_)
  · refine j_goto (pc := 364) (tgt := 2280) dL_law_364 (by decide) ?_
    refine j_sub (lo' := [some (.ref b), some (.ref o), some (.ref mm), some (.ref ou), some (IV i), none, none]) ⟨Or.inr rfl, Or.inr rfl, Or.inr rfl, Or.inr rfl, Or.inr rfl, Or.inl rfl, Or.inl rfl, trivial⟩ ?_
    refine j_room (cl' := b8) (sl' := c8) (by omega) (by omega) ?_
    exact jp_wk (fun H h => PL.gs hE.2.2.2.1 hE.2.2.2.2 h) (kk σ' _ hE.2.2.1)
  · refine j_aload_n (pc := 352) dL_law_352 rfl ?_
    refine j_iconst (pc := 353) dL_law_353 rfl ?_
    refine jp_lald (pc := 354) PL.cw dL_law_354 ?_
    rw [hw1 c]
    refine j_iload (pc := 355) dL_law_355 rfl ?_
    rw [hE.1 c, IVw res]
    refine j_i2l (pc := 357) dL_law_357 (rrI _) ?_
    refine j_lcmpE (pc := 358) dL_law_358 ?_
    refine j_if_eq (pc := 359) (tgt := 364) dL_law_359 (by decide) (by decide) (fun c9 => ?_) (fun c9 => absurd rfl c9)
    refine j_goto (pc := 364) (tgt := 2280) dL_law_364 (by decide) ?_
    refine j_sub (lo' := [some (.ref b), some (.ref o), some (.ref mm), some (.ref ou), some (IV i), none, none]) ⟨Or.inr rfl, Or.inr rfl, Or.inr rfl, Or.inr rfl, Or.inr rfl, Or.inl rfl, Or.inl rfl, trivial⟩ ?_
    refine j_room (cl' := b8) (sl' := c8) (by omega) (by omega) ?_
    exact jp_wk (fun H h => PL.gs hE.2.2.2.1 hE.2.2.2.2 h) (kk σ' _ hE.2.2.1)

theorem md_yX0_station : MD yX0_station 4 := by decide +kernel
theorem md_yX2_station : MD yX2_station 2 := by decide +kernel
set_option maxHeartbeats 4000000 in
theorem lc_2 {Γ : GG} {K : KK} {l : Launch} {N0 N1 N3 o mm ou : Nat} {adm : Nat → Nat} {b LL : Nat} {xs : Nat → Int32} {QP : Option Value → (Heap → Prop) → Prop} {mc ms b8 c8 b9 c9 : Nat} (hfl : l.stackTraces = false) (L : Lie N0 N1 N3 o mm ou adm) (hW : Wd (GE Γ N3) (ACo N0 N1 N3) K) (hX : ∀ (s : State) (H : Heap), Γ.2.2 s H → va_X b LL xs s H) (hbA : ¬ Af N0 b) (hLL : LL ≤ 256) {σ : MM} {T : Nat} (hT : T < 64) (hI : Inv σ T) {w i : Int} (hi : 0 ≤ i ∧ i + 4 ≤ (LL : Int)) (hb : b8 + 300 ≤ b9) (hc : c8 + 36400 ≤ c9) (kk : ∀ (σ' : MM) (w' : Int), Inv σ' (T + 1) → J Γ (Af N0) RP l RX0 "law" cL_law 7 (some .boolean) [] 20 mc ms QP X0 b8 c8 (PL Γ K N0 N1 N3 o mm ou adm σ' σ' w') 2280 [some (.ref b), some (.ref o), some (.ref mm), some (.ref ou), some (IV i), none, none] []) : J Γ (Af N0) RP l RX0 "law" cL_law 7 (some .boolean) [] 20 mc ms QP X0 b9 c9 (PL Γ K N0 N1 N3 o mm ou adm σ σ w) 367 [some (.ref b), some (.ref o), some (.ref mm), some (.ref ou), some (IV i), none, none] [] := by
  refine jp_wk (fun H h => PL.at0 h) ?_
  obtain ⟨p0, hp0⟩ : ∃ p : Int, p = (xs (i + 1).toNat).toInt := ⟨_, rfl⟩
  have r0 : RR p0 := by rw [hp0]; exact rrI _
  obtain ⟨p1, hp1⟩ : ∃ p : Int, p = (xs (i + 2).toNat).toInt := ⟨_, rfl⟩
  have r1 : RR p1 := by rw [hp1]; exact rrI _
  obtain ⟨t, res, fin, ht, hz, hC, hM⟩ := op_station (l := l) hfl L hW hT hI p0 p1 r0 r1
  have hS9 : ∀ (c : Nat), c ≤ 36400 → c8 + c ≤ c9 := fun c h => by omega
  refine j_aload_n (pc := 367) dL_law_367 rfl ?_
  refine j_aload_n (pc := 368) dL_law_368 rfl ?_
  refine j_iload (pc := 369) dL_law_369 rfl ?_
  refine j_iconst (pc := 371) dL_law_371 rfl ?_
  refine j_iadd (pc := 372) dL_law_372 ?_
  refine j_sld (pc := 373) hX hbA (by omega) (by omega) dL_law_373 ?_
  rw [← hp0]
  refine j_aload_n (pc := 374) dL_law_374 rfl ?_
  refine j_iload (pc := 375) dL_law_375 rfl ?_
  refine j_iconst (pc := 377) dL_law_377 rfl ?_
  refine j_iadd (pc := 378) dL_law_378 ?_
  refine j_sld (pc := 379) hX hbA (by omega) (by omega) dL_law_379 ?_
  rw [← hp1]
  refine j_aload_n (pc := 380) dL_law_380 rfl ?_
  refine j_room (cl' := b8 + 6) (sl' := c8 + 50) (by omega) (hS9 50 (by decide)) ?_
  refine j_callSW (pc := 381) (As := [.ref o, IV p0, IV p1, .ref ou]) (rest := []) (hC w) (lw_SW q432 q433 q43 q434) md_yX0_station (by decide) (by decide) rfl (Nat.le_of_ble_eq_true rfl) dL_law_381 (fun v P hq => ?_)
  obtain ⟨w1, rfl, hw1, rfl⟩ := hq
  refine j_istore (pc := 384) dL_law_384 (by decide) (lo' := [some (.ref b), some (.ref o), some (.ref mm), some (.ref ou), some (IV i), some (IV t), none]) rfl ?_
  refine j_aload_n (pc := 386) dL_law_386 rfl ?_
  refine j_aload_n (pc := 387) dL_law_387 rfl ?_
  refine j_iload (pc := 388) dL_law_388 rfl ?_
  refine j_iconst (pc := 390) dL_law_390 rfl ?_
  refine j_iadd (pc := 391) dL_law_391 ?_
  refine j_sld (pc := 392) hX hbA (by omega) (by omega) dL_law_392 ?_
  rw [← hp0]
  refine j_aload_n (pc := 393) dL_law_393 rfl ?_
  refine j_iload (pc := 394) dL_law_394 rfl ?_
  refine j_iconst (pc := 396) dL_law_396 rfl ?_
  refine j_iadd (pc := 397) dL_law_397 ?_
  refine j_sld (pc := 398) hX hbA (by omega) (by omega) dL_law_398 ?_
  rw [← hp1]
  refine j_room (cl' := b8 + 0) (sl' := c8 + 0) (by omega) (by omega) ?_
  refine j_callV (pc := 399) (As := [IV p0, IV p1]) (rest := []) (hM _ _) (lw_V q1554 q1555 q1556 q48 q1557) rfl md_yX2_station PL.rcM (by decide) (by decide) rfl (Nat.le_of_ble_eq_true rfl) dL_law_399 (fun v P hq => ?_)
  obtain ⟨r, σ', rfl, hE, rfl⟩ := hq
  refine j_istore (pc := 402) dL_law_402 (by decide) (lo' := [some (.ref b), some (.ref o), some (.ref mm), some (.ref ou), some (IV i), some (IV t), some (IV r)]) rfl ?_
  refine j_aload_n (pc := 404) dL_law_404 rfl ?_
  refine j_room (cl' := b8 + 0) (sl' := c8 + 0) (by omega) (by omega) ?_
  refine j_callV (pc := 405) (As := []) (rest := []) (PL.ref L (m_thrown σ' hE.2.2.1.1.1)) (lw_V q1521 q1522 q1523 q48 q1524) rfl md_yX2_thrown PL.rcM (by decide) (by decide) rfl (Nat.le_of_ble_eq_true rfl) dL_law_405 (fun v P hq => ?_)
  obtain ⟨r2', σ2, rfl, ⟨e1, e2⟩, rfl⟩ := hq
  rw [e2, e1, hE.2.1]
  refine j_iload (pc := 408) dL_law_408 rfl ?_
  refine j_icmp_eq (pc := 410) (tgt := 415) dL_law_410 (by decide) (by omega) (by omega) (fun c => ?_) (fun c => absurd rfl c)
  refine j_iload (pc := 415) dL_law_415 rfl ?_
  refine j_if_ne (pc := 417) (tgt := 432) dL_law_417 (by decide) (by omega) (fun c => ?_) (fun c => ?_)
  · refine j_goto (pc := 432) (tgt := 2280) dL_law_432 (by decide) ?_
    refine j_sub (lo' := [some (.ref b), some (.ref o), some (.ref mm), some (.ref ou), some (IV i), none, none]) ⟨Or.inr rfl, Or.inr rfl, Or.inr rfl, Or.inr rfl, Or.inr rfl, Or.inl rfl, Or.inl rfl, trivial⟩ ?_
    refine j_room (cl' := b8) (sl' := c8) (by omega) (by omega) ?_
    exact jp_wk (fun H h => PL.gs hE.2.2.2.1 hE.2.2.2.2 h) (kk σ' _ hE.2.2.1)
  · refine j_aload_n (pc := 420) dL_law_420 rfl ?_
    refine j_iconst (pc := 421) dL_law_421 rfl ?_
    refine jp_lald (pc := 422) PL.cw dL_law_422 ?_
    rw [hw1 c]
    refine j_iload (pc := 423) dL_law_423 rfl ?_
    rw [hE.1 c, IVw res]
    refine j_i2l (pc := 425) dL_law_425 (rrI _) ?_
    refine j_lcmpE (pc := 426) dL_law_426 ?_
    refine j_if_eq (pc := 427) (tgt := 432) dL_law_427 (by decide) (by decide) (fun c9 => ?_) (fun c9 => absurd rfl c9)
    refine j_goto (pc := 432) (tgt := 2280) dL_law_432 (by decide) ?_
    refine j_sub (lo' := [some (.ref b), some (.ref o), some (.ref mm), some (.ref ou), some (IV i), none, none]) ⟨Or.inr rfl, Or.inr rfl, Or.inr rfl, Or.inr rfl, Or.inr rfl, Or.inl rfl, Or.inl rfl, trivial⟩ ?_
    refine j_room (cl' := b8) (sl' := c8) (by omega) (by omega) ?_
    exact jp_wk (fun H h => PL.gs hE.2.2.2.1 hE.2.2.2.2 h) (kk σ' _ hE.2.2.1)

theorem md_yX0_setSeats : MD yX0_setSeats 4 := by decide +kernel
theorem md_yX2_setSeats : MD yX2_setSeats 2 := by decide +kernel
set_option maxHeartbeats 4000000 in
theorem lc_3 {Γ : GG} {K : KK} {l : Launch} {N0 N1 N3 o mm ou : Nat} {adm : Nat → Nat} {b LL : Nat} {xs : Nat → Int32} {QP : Option Value → (Heap → Prop) → Prop} {mc ms b8 c8 b9 c9 : Nat} (hfl : l.stackTraces = false) (L : Lie N0 N1 N3 o mm ou adm) (hW : Wd (GE Γ N3) (ACo N0 N1 N3) K) (hX : ∀ (s : State) (H : Heap), Γ.2.2 s H → va_X b LL xs s H) (hbA : ¬ Af N0 b) (hLL : LL ≤ 256) {σ : MM} {T : Nat} (hT : T < 64) (hI : Inv σ T) {w i : Int} (hi : 0 ≤ i ∧ i + 4 ≤ (LL : Int)) (hb : b8 + 300 ≤ b9) (hc : c8 + 36400 ≤ c9) (kk : ∀ (σ' : MM) (w' : Int), Inv σ' (T + 1) → J Γ (Af N0) RP l RX0 "law" cL_law 7 (some .boolean) [] 20 mc ms QP X0 b8 c8 (PL Γ K N0 N1 N3 o mm ou adm σ' σ' w') 2280 [some (.ref b), some (.ref o), some (.ref mm), some (.ref ou), some (IV i), none, none] []) : J Γ (Af N0) RP l RX0 "law" cL_law 7 (some .boolean) [] 20 mc ms QP X0 b9 c9 (PL Γ K N0 N1 N3 o mm ou adm σ σ w) 435 [some (.ref b), some (.ref o), some (.ref mm), some (.ref ou), some (IV i), none, none] [] := by
  refine jp_wk (fun H h => PL.at0 h) ?_
  obtain ⟨p0, hp0⟩ : ∃ p : Int, p = (xs (i + 1).toNat).toInt := ⟨_, rfl⟩
  have r0 : RR p0 := by rw [hp0]; exact rrI _
  obtain ⟨p1, hp1⟩ : ∃ p : Int, p = (xs (i + 2).toNat).toInt := ⟨_, rfl⟩
  have r1 : RR p1 := by rw [hp1]; exact rrI _
  obtain ⟨t, res, fin, ht, hz, hC, hM⟩ := op_setSeats (l := l) hfl L hW hT hI p0 p1 r0 r1
  have hS9 : ∀ (c : Nat), c ≤ 36400 → c8 + c ≤ c9 := fun c h => by omega
  refine j_aload_n (pc := 435) dL_law_435 rfl ?_
  refine j_aload_n (pc := 436) dL_law_436 rfl ?_
  refine j_iload (pc := 437) dL_law_437 rfl ?_
  refine j_iconst (pc := 439) dL_law_439 rfl ?_
  refine j_iadd (pc := 440) dL_law_440 ?_
  refine j_sld (pc := 441) hX hbA (by omega) (by omega) dL_law_441 ?_
  rw [← hp0]
  refine j_aload_n (pc := 442) dL_law_442 rfl ?_
  refine j_iload (pc := 443) dL_law_443 rfl ?_
  refine j_iconst (pc := 445) dL_law_445 rfl ?_
  refine j_iadd (pc := 446) dL_law_446 ?_
  refine j_sld (pc := 447) hX hbA (by omega) (by omega) dL_law_447 ?_
  rw [← hp1]
  refine j_aload_n (pc := 448) dL_law_448 rfl ?_
  refine j_room (cl' := b8 + 3) (sl' := c8 + 14) (by omega) (hS9 14 (by decide)) ?_
  refine j_callSW (pc := 449) (As := [.ref o, IV p0, IV p1, .ref ou]) (rest := []) (hC w) (lw_SW q543 q544 q43 q545) md_yX0_setSeats (by decide) (by decide) rfl (Nat.le_of_ble_eq_true rfl) dL_law_449 (fun v P hq => ?_)
  obtain ⟨w1, rfl, hw1, rfl⟩ := hq
  refine j_istore (pc := 452) dL_law_452 (by decide) (lo' := [some (.ref b), some (.ref o), some (.ref mm), some (.ref ou), some (IV i), some (IV t), none]) rfl ?_
  refine j_aload_n (pc := 454) dL_law_454 rfl ?_
  refine j_aload_n (pc := 455) dL_law_455 rfl ?_
  refine j_iload (pc := 456) dL_law_456 rfl ?_
  refine j_iconst (pc := 458) dL_law_458 rfl ?_
  refine j_iadd (pc := 459) dL_law_459 ?_
  refine j_sld (pc := 460) hX hbA (by omega) (by omega) dL_law_460 ?_
  rw [← hp0]
  refine j_aload_n (pc := 461) dL_law_461 rfl ?_
  refine j_iload (pc := 462) dL_law_462 rfl ?_
  refine j_iconst (pc := 464) dL_law_464 rfl ?_
  refine j_iadd (pc := 465) dL_law_465 ?_
  refine j_sld (pc := 466) hX hbA (by omega) (by omega) dL_law_466 ?_
  rw [← hp1]
  refine j_room (cl' := b8 + 0) (sl' := c8 + 0) (by omega) (by omega) ?_
  refine j_callV (pc := 467) (As := [IV p0, IV p1]) (rest := []) (hM _ _) (lw_V q1562 q1563 q1564 q48 q1565) rfl md_yX2_setSeats PL.rcM (by decide) (by decide) rfl (Nat.le_of_ble_eq_true rfl) dL_law_467 (fun v P hq => ?_)
  obtain ⟨r, σ', rfl, hE, rfl⟩ := hq
  refine j_istore (pc := 470) dL_law_470 (by decide) (lo' := [some (.ref b), some (.ref o), some (.ref mm), some (.ref ou), some (IV i), some (IV t), some (IV r)]) rfl ?_
  refine j_aload_n (pc := 472) dL_law_472 rfl ?_
  refine j_room (cl' := b8 + 0) (sl' := c8 + 0) (by omega) (by omega) ?_
  refine j_callV (pc := 473) (As := []) (rest := []) (PL.ref L (m_thrown σ' hE.2.2.1.1.1)) (lw_V q1521 q1522 q1523 q48 q1524) rfl md_yX2_thrown PL.rcM (by decide) (by decide) rfl (Nat.le_of_ble_eq_true rfl) dL_law_473 (fun v P hq => ?_)
  obtain ⟨r2', σ2, rfl, ⟨e1, e2⟩, rfl⟩ := hq
  rw [e2, e1, hE.2.1]
  refine j_iload (pc := 476) dL_law_476 rfl ?_
  refine j_icmp_eq (pc := 478) (tgt := 483) dL_law_478 (by decide) (by omega) (by omega) (fun c => ?_) (fun c => absurd rfl c)
  refine j_iload (pc := 483) dL_law_483 rfl ?_
  refine j_if_ne (pc := 485) (tgt := 500) dL_law_485 (by decide) (by omega) (fun c => ?_) (fun c => ?_)
  · refine j_goto (pc := 500) (tgt := 2280) dL_law_500 (by decide) ?_
    refine j_sub (lo' := [some (.ref b), some (.ref o), some (.ref mm), some (.ref ou), some (IV i), none, none]) ⟨Or.inr rfl, Or.inr rfl, Or.inr rfl, Or.inr rfl, Or.inr rfl, Or.inl rfl, Or.inl rfl, trivial⟩ ?_
    refine j_room (cl' := b8) (sl' := c8) (by omega) (by omega) ?_
    exact jp_wk (fun H h => PL.gs hE.2.2.2.1 hE.2.2.2.2 h) (kk σ' _ hE.2.2.1)
  · refine j_aload_n (pc := 488) dL_law_488 rfl ?_
    refine j_iconst (pc := 489) dL_law_489 rfl ?_
    refine jp_lald (pc := 490) PL.cw dL_law_490 ?_
    rw [hw1 c]
    refine j_iload (pc := 491) dL_law_491 rfl ?_
    rw [hE.1 c, IVw res]
    refine j_i2l (pc := 493) dL_law_493 (rrI _) ?_
    refine j_lcmpE (pc := 494) dL_law_494 ?_
    refine j_if_eq (pc := 495) (tgt := 500) dL_law_495 (by decide) (by decide) (fun c9 => ?_) (fun c9 => absurd rfl c9)
    refine j_goto (pc := 500) (tgt := 2280) dL_law_500 (by decide) ?_
    refine j_sub (lo' := [some (.ref b), some (.ref o), some (.ref mm), some (.ref ou), some (IV i), none, none]) ⟨Or.inr rfl, Or.inr rfl, Or.inr rfl, Or.inr rfl, Or.inr rfl, Or.inl rfl, Or.inl rfl, trivial⟩ ?_
    refine j_room (cl' := b8) (sl' := c8) (by omega) (by omega) ?_
    exact jp_wk (fun H h => PL.gs hE.2.2.2.1 hE.2.2.2.2 h) (kk σ' _ hE.2.2.1)

theorem md_yX0_person : MD yX0_person 4 := by decide +kernel
theorem md_yX2_person : MD yX2_person 2 := by decide +kernel
set_option maxHeartbeats 4000000 in
theorem lc_4 {Γ : GG} {K : KK} {l : Launch} {N0 N1 N3 o mm ou : Nat} {adm : Nat → Nat} {b LL : Nat} {xs : Nat → Int32} {QP : Option Value → (Heap → Prop) → Prop} {mc ms b8 c8 b9 c9 : Nat} (hfl : l.stackTraces = false) (L : Lie N0 N1 N3 o mm ou adm) (hW : Wd (GE Γ N3) (ACo N0 N1 N3) K) (hX : ∀ (s : State) (H : Heap), Γ.2.2 s H → va_X b LL xs s H) (hbA : ¬ Af N0 b) (hLL : LL ≤ 256) {σ : MM} {T : Nat} (hT : T < 64) (hI : Inv σ T) {w i : Int} (hi : 0 ≤ i ∧ i + 4 ≤ (LL : Int)) (hb : b8 + 300 ≤ b9) (hc : c8 + 36400 ≤ c9) (kk : ∀ (σ' : MM) (w' : Int), Inv σ' (T + 1) → J Γ (Af N0) RP l RX0 "law" cL_law 7 (some .boolean) [] 20 mc ms QP X0 b8 c8 (PL Γ K N0 N1 N3 o mm ou adm σ' σ' w') 2280 [some (.ref b), some (.ref o), some (.ref mm), some (.ref ou), some (IV i), none, none] []) : J Γ (Af N0) RP l RX0 "law" cL_law 7 (some .boolean) [] 20 mc ms QP X0 b9 c9 (PL Γ K N0 N1 N3 o mm ou adm σ σ w) 503 [some (.ref b), some (.ref o), some (.ref mm), some (.ref ou), some (IV i), none, none] [] := by
  refine jp_wk (fun H h => PL.at0 h) ?_
  obtain ⟨p0, hp0⟩ : ∃ p : Int, p = (xs (i + 1).toNat).toInt := ⟨_, rfl⟩
  have r0 : RR p0 := by rw [hp0]; exact rrI _
  obtain ⟨p1, hp1⟩ : ∃ p : Int, p = (xs (i + 2).toNat).toInt := ⟨_, rfl⟩
  have r1 : RR p1 := by rw [hp1]; exact rrI _
  obtain ⟨t, res, fin, ht, hz, hC, hM⟩ := op_person (l := l) hfl L hW hT hI p0 p1 r0 r1
  have hS9 : ∀ (c : Nat), c ≤ 36400 → c8 + c ≤ c9 := fun c h => by omega
  refine j_aload_n (pc := 503) dL_law_503 rfl ?_
  refine j_aload_n (pc := 504) dL_law_504 rfl ?_
  refine j_iload (pc := 505) dL_law_505 rfl ?_
  refine j_iconst (pc := 507) dL_law_507 rfl ?_
  refine j_iadd (pc := 508) dL_law_508 ?_
  refine j_sld (pc := 509) hX hbA (by omega) (by omega) dL_law_509 ?_
  rw [← hp0]
  refine j_aload_n (pc := 510) dL_law_510 rfl ?_
  refine j_iload (pc := 511) dL_law_511 rfl ?_
  refine j_iconst (pc := 513) dL_law_513 rfl ?_
  refine j_iadd (pc := 514) dL_law_514 ?_
  refine j_sld (pc := 515) hX hbA (by omega) (by omega) dL_law_515 ?_
  rw [← hp1]
  refine j_aload_n (pc := 516) dL_law_516 rfl ?_
  refine j_room (cl' := b8 + 12) (sl' := c8 + 120) (by omega) (hS9 120 (by decide)) ?_
  refine j_callSW (pc := 517) (As := [.ref o, IV p0, IV p1, .ref ou]) (rest := []) (hC w) (lw_SW q552 q553 q43 q554) md_yX0_person (by decide) (by decide) rfl (Nat.le_of_ble_eq_true rfl) dL_law_517 (fun v P hq => ?_)
  obtain ⟨w1, rfl, hw1, rfl⟩ := hq
  refine j_istore (pc := 520) dL_law_520 (by decide) (lo' := [some (.ref b), some (.ref o), some (.ref mm), some (.ref ou), some (IV i), some (IV t), none]) rfl ?_
  refine j_aload_n (pc := 522) dL_law_522 rfl ?_
  refine j_aload_n (pc := 523) dL_law_523 rfl ?_
  refine j_iload (pc := 524) dL_law_524 rfl ?_
  refine j_iconst (pc := 526) dL_law_526 rfl ?_
  refine j_iadd (pc := 527) dL_law_527 ?_
  refine j_sld (pc := 528) hX hbA (by omega) (by omega) dL_law_528 ?_
  rw [← hp0]
  refine j_aload_n (pc := 529) dL_law_529 rfl ?_
  refine j_iload (pc := 530) dL_law_530 rfl ?_
  refine j_iconst (pc := 532) dL_law_532 rfl ?_
  refine j_iadd (pc := 533) dL_law_533 ?_
  refine j_sld (pc := 534) hX hbA (by omega) (by omega) dL_law_534 ?_
  rw [← hp1]
  refine j_room (cl' := b8 + 0) (sl' := c8 + 0) (by omega) (by omega) ?_
  refine j_callV (pc := 535) (As := [IV p0, IV p1]) (rest := []) (hM _ _) (lw_V q1570 q1571 q1572 q48 q1573) rfl md_yX2_person PL.rcM (by decide) (by decide) rfl (Nat.le_of_ble_eq_true rfl) dL_law_535 (fun v P hq => ?_)
  obtain ⟨r, σ', rfl, hE, rfl⟩ := hq
  refine j_istore (pc := 538) dL_law_538 (by decide) (lo' := [some (.ref b), some (.ref o), some (.ref mm), some (.ref ou), some (IV i), some (IV t), some (IV r)]) rfl ?_
  refine j_aload_n (pc := 540) dL_law_540 rfl ?_
  refine j_room (cl' := b8 + 0) (sl' := c8 + 0) (by omega) (by omega) ?_
  refine j_callV (pc := 541) (As := []) (rest := []) (PL.ref L (m_thrown σ' hE.2.2.1.1.1)) (lw_V q1521 q1522 q1523 q48 q1524) rfl md_yX2_thrown PL.rcM (by decide) (by decide) rfl (Nat.le_of_ble_eq_true rfl) dL_law_541 (fun v P hq => ?_)
  obtain ⟨r2', σ2, rfl, ⟨e1, e2⟩, rfl⟩ := hq
  rw [e2, e1, hE.2.1]
  refine j_iload (pc := 544) dL_law_544 rfl ?_
  refine j_icmp_eq (pc := 546) (tgt := 551) dL_law_546 (by decide) (by omega) (by omega) (fun c => ?_) (fun c => absurd rfl c)
  refine j_iload (pc := 551) dL_law_551 rfl ?_
  refine j_if_ne (pc := 553) (tgt := 568) dL_law_553 (by decide) (by omega) (fun c => ?_) (fun c => ?_)
  · refine j_goto (pc := 568) (tgt := 2280) dL_law_568 (by decide) ?_
    refine j_sub (lo' := [some (.ref b), some (.ref o), some (.ref mm), some (.ref ou), some (IV i), none, none]) ⟨Or.inr rfl, Or.inr rfl, Or.inr rfl, Or.inr rfl, Or.inr rfl, Or.inl rfl, Or.inl rfl, trivial⟩ ?_
    refine j_room (cl' := b8) (sl' := c8) (by omega) (by omega) ?_
    exact jp_wk (fun H h => PL.gs hE.2.2.2.1 hE.2.2.2.2 h) (kk σ' _ hE.2.2.1)
  · refine j_aload_n (pc := 556) dL_law_556 rfl ?_
    refine j_iconst (pc := 557) dL_law_557 rfl ?_
    refine jp_lald (pc := 558) PL.cw dL_law_558 ?_
    rw [hw1 c]
    refine j_iload (pc := 559) dL_law_559 rfl ?_
    rw [hE.1 c, IVw res]
    refine j_i2l (pc := 561) dL_law_561 (rrI _) ?_
    refine j_lcmpE (pc := 562) dL_law_562 ?_
    refine j_if_eq (pc := 563) (tgt := 568) dL_law_563 (by decide) (by decide) (fun c9 => ?_) (fun c9 => absurd rfl c9)
    refine j_goto (pc := 568) (tgt := 2280) dL_law_568 (by decide) ?_
    refine j_sub (lo' := [some (.ref b), some (.ref o), some (.ref mm), some (.ref ou), some (IV i), none, none]) ⟨Or.inr rfl, Or.inr rfl, Or.inr rfl, Or.inr rfl, Or.inr rfl, Or.inl rfl, Or.inl rfl, trivial⟩ ?_
    refine j_room (cl' := b8) (sl' := c8) (by omega) (by omega) ?_
    exact jp_wk (fun H h => PL.gs hE.2.2.2.1 hE.2.2.2.2 h) (kk σ' _ hE.2.2.1)

theorem md_yX0_move : MD yX0_move 4 := by decide +kernel
theorem md_yX2_move : MD yX2_move 2 := by decide +kernel
set_option maxHeartbeats 4000000 in
theorem lc_5 {Γ : GG} {K : KK} {l : Launch} {N0 N1 N3 o mm ou : Nat} {adm : Nat → Nat} {b LL : Nat} {xs : Nat → Int32} {QP : Option Value → (Heap → Prop) → Prop} {mc ms b8 c8 b9 c9 : Nat} (hfl : l.stackTraces = false) (L : Lie N0 N1 N3 o mm ou adm) (hW : Wd (GE Γ N3) (ACo N0 N1 N3) K) (hX : ∀ (s : State) (H : Heap), Γ.2.2 s H → va_X b LL xs s H) (hbA : ¬ Af N0 b) (hLL : LL ≤ 256) {σ : MM} {T : Nat} (hT : T < 64) (hI : Inv σ T) {w i : Int} (hi : 0 ≤ i ∧ i + 4 ≤ (LL : Int)) (hb : b8 + 300 ≤ b9) (hc : c8 + 36400 ≤ c9) (kk : ∀ (σ' : MM) (w' : Int), Inv σ' (T + 1) → J Γ (Af N0) RP l RX0 "law" cL_law 7 (some .boolean) [] 20 mc ms QP X0 b8 c8 (PL Γ K N0 N1 N3 o mm ou adm σ' σ' w') 2280 [some (.ref b), some (.ref o), some (.ref mm), some (.ref ou), some (IV i), none, none] []) : J Γ (Af N0) RP l RX0 "law" cL_law 7 (some .boolean) [] 20 mc ms QP X0 b9 c9 (PL Γ K N0 N1 N3 o mm ou adm σ σ w) 571 [some (.ref b), some (.ref o), some (.ref mm), some (.ref ou), some (IV i), none, none] [] := by
  refine jp_wk (fun H h => PL.at0 h) ?_
  obtain ⟨p0, hp0⟩ : ∃ p : Int, p = (xs (i + 1).toNat).toInt := ⟨_, rfl⟩
  have r0 : RR p0 := by rw [hp0]; exact rrI _
  obtain ⟨p1, hp1⟩ : ∃ p : Int, p = (xs (i + 2).toNat).toInt := ⟨_, rfl⟩
  have r1 : RR p1 := by rw [hp1]; exact rrI _
  obtain ⟨t, res, fin, ht, hz, hC, hM⟩ := op_move (l := l) hfl L hW hT hI p0 p1 r0 r1
  have hS9 : ∀ (c : Nat), c ≤ 36400 → c8 + c ≤ c9 := fun c h => by omega
  refine j_aload_n (pc := 571) dL_law_571 rfl ?_
  refine j_aload_n (pc := 572) dL_law_572 rfl ?_
  refine j_iload (pc := 573) dL_law_573 rfl ?_
  refine j_iconst (pc := 575) dL_law_575 rfl ?_
  refine j_iadd (pc := 576) dL_law_576 ?_
  refine j_sld (pc := 577) hX hbA (by omega) (by omega) dL_law_577 ?_
  rw [← hp0]
  refine j_aload_n (pc := 578) dL_law_578 rfl ?_
  refine j_iload (pc := 579) dL_law_579 rfl ?_
  refine j_iconst (pc := 581) dL_law_581 rfl ?_
  refine j_iadd (pc := 582) dL_law_582 ?_
  refine j_sld (pc := 583) hX hbA (by omega) (by omega) dL_law_583 ?_
  rw [← hp1]
  refine j_aload_n (pc := 584) dL_law_584 rfl ?_
  refine j_room (cl' := b8 + 8) (sl' := c8 + 1140) (by omega) (hS9 1140 (by decide)) ?_
  refine j_callSW (pc := 585) (As := [.ref o, IV p0, IV p1, .ref ou]) (rest := []) (hC w) (lw_SW q607 q608 q43 q609) md_yX0_move (by decide) (by decide) rfl (Nat.le_of_ble_eq_true rfl) dL_law_585 (fun v P hq => ?_)
  obtain ⟨w1, rfl, hw1, rfl⟩ := hq
  refine j_istore (pc := 588) dL_law_588 (by decide) (lo' := [some (.ref b), some (.ref o), some (.ref mm), some (.ref ou), some (IV i), some (IV t), none]) rfl ?_
  refine j_aload_n (pc := 590) dL_law_590 rfl ?_
  refine j_aload_n (pc := 591) dL_law_591 rfl ?_
  refine j_iload (pc := 592) dL_law_592 rfl ?_
  refine j_iconst (pc := 594) dL_law_594 rfl ?_
  refine j_iadd (pc := 595) dL_law_595 ?_
  refine j_sld (pc := 596) hX hbA (by omega) (by omega) dL_law_596 ?_
  rw [← hp0]
  refine j_aload_n (pc := 597) dL_law_597 rfl ?_
  refine j_iload (pc := 598) dL_law_598 rfl ?_
  refine j_iconst (pc := 600) dL_law_600 rfl ?_
  refine j_iadd (pc := 601) dL_law_601 ?_
  refine j_sld (pc := 602) hX hbA (by omega) (by omega) dL_law_602 ?_
  rw [← hp1]
  refine j_room (cl' := b8 + 0) (sl' := c8 + 0) (by omega) (by omega) ?_
  refine j_callV (pc := 603) (As := [IV p0, IV p1]) (rest := []) (hM _ _) (lw_V q1578 q1579 q1580 q48 q1581) rfl md_yX2_move PL.rcM (by decide) (by decide) rfl (Nat.le_of_ble_eq_true rfl) dL_law_603 (fun v P hq => ?_)
  obtain ⟨r, σ', rfl, hE, rfl⟩ := hq
  refine j_istore (pc := 606) dL_law_606 (by decide) (lo' := [some (.ref b), some (.ref o), some (.ref mm), some (.ref ou), some (IV i), some (IV t), some (IV r)]) rfl ?_
  refine j_aload_n (pc := 608) dL_law_608 rfl ?_
  refine j_room (cl' := b8 + 0) (sl' := c8 + 0) (by omega) (by omega) ?_
  refine j_callV (pc := 609) (As := []) (rest := []) (PL.ref L (m_thrown σ' hE.2.2.1.1.1)) (lw_V q1521 q1522 q1523 q48 q1524) rfl md_yX2_thrown PL.rcM (by decide) (by decide) rfl (Nat.le_of_ble_eq_true rfl) dL_law_609 (fun v P hq => ?_)
  obtain ⟨r2', σ2, rfl, ⟨e1, e2⟩, rfl⟩ := hq
  rw [e2, e1, hE.2.1]
  refine j_iload (pc := 612) dL_law_612 rfl ?_
  refine j_icmp_eq (pc := 614) (tgt := 619) dL_law_614 (by decide) (by omega) (by omega) (fun c => ?_) (fun c => absurd rfl c)
  refine j_iload (pc := 619) dL_law_619 rfl ?_
  refine j_if_ne (pc := 621) (tgt := 636) dL_law_621 (by decide) (by omega) (fun c => ?_) (fun c => ?_)
  · refine j_goto (pc := 636) (tgt := 2280) dL_law_636 (by decide) ?_
    refine j_sub (lo' := [some (.ref b), some (.ref o), some (.ref mm), some (.ref ou), some (IV i), none, none]) ⟨Or.inr rfl, Or.inr rfl, Or.inr rfl, Or.inr rfl, Or.inr rfl, Or.inl rfl, Or.inl rfl, trivial⟩ ?_
    refine j_room (cl' := b8) (sl' := c8) (by omega) (by omega) ?_
    exact jp_wk (fun H h => PL.gs hE.2.2.2.1 hE.2.2.2.2 h) (kk σ' _ hE.2.2.1)
  · refine j_aload_n (pc := 624) dL_law_624 rfl ?_
    refine j_iconst (pc := 625) dL_law_625 rfl ?_
    refine jp_lald (pc := 626) PL.cw dL_law_626 ?_
    rw [hw1 c]
    refine j_iload (pc := 627) dL_law_627 rfl ?_
    rw [hE.1 c, IVw res]
    refine j_i2l (pc := 629) dL_law_629 (rrI _) ?_
    refine j_lcmpE (pc := 630) dL_law_630 ?_
    refine j_if_eq (pc := 631) (tgt := 636) dL_law_631 (by decide) (by decide) (fun c9 => ?_) (fun c9 => absurd rfl c9)
    refine j_goto (pc := 636) (tgt := 2280) dL_law_636 (by decide) ?_
    refine j_sub (lo' := [some (.ref b), some (.ref o), some (.ref mm), some (.ref ou), some (IV i), none, none]) ⟨Or.inr rfl, Or.inr rfl, Or.inr rfl, Or.inr rfl, Or.inr rfl, Or.inl rfl, Or.inl rfl, trivial⟩ ?_
    refine j_room (cl' := b8) (sl' := c8) (by omega) (by omega) ?_
    exact jp_wk (fun H h => PL.gs hE.2.2.2.1 hE.2.2.2.2 h) (kk σ' _ hE.2.2.1)

theorem md_yX0_die : MD yX0_die 3 := by decide +kernel
theorem md_yX2_die : MD yX2_die 1 := by decide +kernel
set_option maxHeartbeats 4000000 in
theorem lc_6 {Γ : GG} {K : KK} {l : Launch} {N0 N1 N3 o mm ou : Nat} {adm : Nat → Nat} {b LL : Nat} {xs : Nat → Int32} {QP : Option Value → (Heap → Prop) → Prop} {mc ms b8 c8 b9 c9 : Nat} (hfl : l.stackTraces = false) (L : Lie N0 N1 N3 o mm ou adm) (hW : Wd (GE Γ N3) (ACo N0 N1 N3) K) (hX : ∀ (s : State) (H : Heap), Γ.2.2 s H → va_X b LL xs s H) (hbA : ¬ Af N0 b) (hLL : LL ≤ 256) {σ : MM} {T : Nat} (hT : T < 64) (hI : Inv σ T) {w i : Int} (hi : 0 ≤ i ∧ i + 4 ≤ (LL : Int)) (hb : b8 + 300 ≤ b9) (hc : c8 + 36400 ≤ c9) (kk : ∀ (σ' : MM) (w' : Int), Inv σ' (T + 1) → J Γ (Af N0) RP l RX0 "law" cL_law 7 (some .boolean) [] 20 mc ms QP X0 b8 c8 (PL Γ K N0 N1 N3 o mm ou adm σ' σ' w') 2280 [some (.ref b), some (.ref o), some (.ref mm), some (.ref ou), some (IV i), none, none] []) : J Γ (Af N0) RP l RX0 "law" cL_law 7 (some .boolean) [] 20 mc ms QP X0 b9 c9 (PL Γ K N0 N1 N3 o mm ou adm σ σ w) 639 [some (.ref b), some (.ref o), some (.ref mm), some (.ref ou), some (IV i), none, none] [] := by
  refine jp_wk (fun H h => PL.at0 h) ?_
  obtain ⟨p0, hp0⟩ : ∃ p : Int, p = (xs (i + 1).toNat).toInt := ⟨_, rfl⟩
  have r0 : RR p0 := by rw [hp0]; exact rrI _
  obtain ⟨t, res, fin, ht, hz, hC, hM⟩ := op_die (l := l) hfl L hW hT hI p0 r0
  have hS9 : ∀ (c : Nat), c ≤ 36400 → c8 + c ≤ c9 := fun c h => by omega
  refine j_aload_n (pc := 639) dL_law_639 rfl ?_
  refine j_aload_n (pc := 640) dL_law_640 rfl ?_
  refine j_iload (pc := 641) dL_law_641 rfl ?_
  refine j_iconst (pc := 643) dL_law_643 rfl ?_
  refine j_iadd (pc := 644) dL_law_644 ?_
  refine j_sld (pc := 645) hX hbA (by omega) (by omega) dL_law_645 ?_
  rw [← hp0]
  refine j_aload_n (pc := 646) dL_law_646 rfl ?_
  refine j_room (cl' := b8 + 8) (sl' := c8 + 550) (by omega) (hS9 550 (by decide)) ?_
  refine j_callSW (pc := 647) (As := [.ref o, IV p0, .ref ou]) (rest := []) (hC w) (lw_SW q627 q628 q43 q629) md_yX0_die (by decide) (by decide) rfl (Nat.le_of_ble_eq_true rfl) dL_law_647 (fun v P hq => ?_)
  obtain ⟨w1, rfl, hw1, rfl⟩ := hq
  refine j_istore (pc := 650) dL_law_650 (by decide) (lo' := [some (.ref b), some (.ref o), some (.ref mm), some (.ref ou), some (IV i), some (IV t), none]) rfl ?_
  refine j_aload_n (pc := 652) dL_law_652 rfl ?_
  refine j_aload_n (pc := 653) dL_law_653 rfl ?_
  refine j_iload (pc := 654) dL_law_654 rfl ?_
  refine j_iconst (pc := 656) dL_law_656 rfl ?_
  refine j_iadd (pc := 657) dL_law_657 ?_
  refine j_sld (pc := 658) hX hbA (by omega) (by omega) dL_law_658 ?_
  rw [← hp0]
  refine j_room (cl' := b8 + 0) (sl' := c8 + 0) (by omega) (by omega) ?_
  refine j_callV (pc := 659) (As := [IV p0]) (rest := []) (hM _ _) (lw_V q1590 q1591 q1592 q48 q1593) rfl md_yX2_die PL.rcM (by decide) (by decide) rfl (Nat.le_of_ble_eq_true rfl) dL_law_659 (fun v P hq => ?_)
  obtain ⟨r, σ', rfl, hE, rfl⟩ := hq
  refine j_istore (pc := 662) dL_law_662 (by decide) (lo' := [some (.ref b), some (.ref o), some (.ref mm), some (.ref ou), some (IV i), some (IV t), some (IV r)]) rfl ?_
  refine j_aload_n (pc := 664) dL_law_664 rfl ?_
  refine j_room (cl' := b8 + 0) (sl' := c8 + 0) (by omega) (by omega) ?_
  refine j_callV (pc := 665) (As := []) (rest := []) (PL.ref L (m_thrown σ' hE.2.2.1.1.1)) (lw_V q1521 q1522 q1523 q48 q1524) rfl md_yX2_thrown PL.rcM (by decide) (by decide) rfl (Nat.le_of_ble_eq_true rfl) dL_law_665 (fun v P hq => ?_)
  obtain ⟨r2', σ2, rfl, ⟨e1, e2⟩, rfl⟩ := hq
  rw [e2, e1, hE.2.1]
  refine j_iload (pc := 668) dL_law_668 rfl ?_
  refine j_icmp_eq (pc := 670) (tgt := 675) dL_law_670 (by decide) (by omega) (by omega) (fun c => ?_) (fun c => absurd rfl c)
  refine j_iload (pc := 675) dL_law_675 rfl ?_
  refine j_if_ne (pc := 677) (tgt := 699) dL_law_677 (by decide) (by omega) (fun c => ?_) (fun c => ?_)
  · refine j_goto (pc := 699) (tgt := 2280) dL_law_699 (by decide) ?_
    refine j_sub (lo' := [some (.ref b), some (.ref o), some (.ref mm), some (.ref ou), some (IV i), none, none]) ⟨Or.inr rfl, Or.inr rfl, Or.inr rfl, Or.inr rfl, Or.inr rfl, Or.inl rfl, Or.inl rfl, trivial⟩ ?_
    refine j_room (cl' := b8) (sl' := c8) (by omega) (by omega) ?_
    exact jp_wk (fun H h => PL.gs hE.2.2.2.1 hE.2.2.2.2 h) (kk σ' _ hE.2.2.1)
  · refine j_aload_n (pc := 680) dL_law_680 rfl ?_
    refine j_iconst (pc := 681) dL_law_681 rfl ?_
    refine jp_lald (pc := 682) PL.cw dL_law_682 ?_
    rw [hw1 c]
    refine j_iload (pc := 683) dL_law_683 rfl ?_
    rw [hE.1 c]
    have h01 := hz trivial
    refine j_if_eq (pc := 685) (tgt := 692) dL_law_685 (by decide) (by omega) (fun c2 => ?_) (fun c2 => ?_)
    · refine j_lconst (pc := 692) (v := Int64.ofInt 0) dL_law_692 rfl ?_
      rw [show (iI res).toInt = 0 from by rw [show res = 0 from by omega]; rfl]
      refine j_lcmpE (pc := 693) dL_law_693 ?_
      refine j_if_eq (pc := 694) (tgt := 699) dL_law_694 (by decide) (by decide) (fun c9 => ?_) (fun c9 => absurd rfl c9)
      refine j_goto (pc := 699) (tgt := 2280) dL_law_699 (by decide) ?_
      refine j_sub (lo' := [some (.ref b), some (.ref o), some (.ref mm), some (.ref ou), some (IV i), none, none]) ⟨Or.inr rfl, Or.inr rfl, Or.inr rfl, Or.inr rfl, Or.inr rfl, Or.inl rfl, Or.inl rfl, trivial⟩ ?_
      refine j_room (cl' := b8) (sl' := c8) (by omega) (by omega) ?_
      exact jp_wk (fun H h => PL.gs hE.2.2.2.1 hE.2.2.2.2 h) (kk σ' _ hE.2.2.1)
    · refine j_lconst (pc := 688) (v := Int64.ofInt 1) dL_law_688 rfl ?_
      refine j_goto (pc := 689) (tgt := 693) dL_law_689 (by decide) ?_
      rw [show (iI res).toInt = 1 from by rw [show res = 1 from by omega]; rfl]
      refine j_lcmpE (pc := 693) dL_law_693 ?_
      refine j_if_eq (pc := 694) (tgt := 699) dL_law_694 (by decide) (by decide) (fun c9 => ?_) (fun c9 => absurd rfl c9)
      refine j_goto (pc := 699) (tgt := 2280) dL_law_699 (by decide) ?_
      refine j_sub (lo' := [some (.ref b), some (.ref o), some (.ref mm), some (.ref ou), some (IV i), none, none]) ⟨Or.inr rfl, Or.inr rfl, Or.inr rfl, Or.inr rfl, Or.inr rfl, Or.inl rfl, Or.inl rfl, trivial⟩ ?_
      refine j_room (cl' := b8) (sl' := c8) (by omega) (by omega) ?_
      exact jp_wk (fun H h => PL.gs hE.2.2.2.1 hE.2.2.2.2 h) (kk σ' _ hE.2.2.1)

theorem md_yX0_dwells : MD yX0_dwells 4 := by decide +kernel
theorem md_yX2_dwells : MD yX2_dwells 2 := by decide +kernel
set_option maxHeartbeats 4000000 in
theorem lc_7 {Γ : GG} {K : KK} {l : Launch} {N0 N1 N3 o mm ou : Nat} {adm : Nat → Nat} {b LL : Nat} {xs : Nat → Int32} {QP : Option Value → (Heap → Prop) → Prop} {mc ms b8 c8 b9 c9 : Nat} (hfl : l.stackTraces = false) (L : Lie N0 N1 N3 o mm ou adm) (hW : Wd (GE Γ N3) (ACo N0 N1 N3) K) (hX : ∀ (s : State) (H : Heap), Γ.2.2 s H → va_X b LL xs s H) (hbA : ¬ Af N0 b) (hLL : LL ≤ 256) {σ : MM} {T : Nat} (hT : T < 64) (hI : Inv σ T) {w i : Int} (hi : 0 ≤ i ∧ i + 4 ≤ (LL : Int)) (hb : b8 + 300 ≤ b9) (hc : c8 + 36400 ≤ c9) (kk : ∀ (σ' : MM) (w' : Int), Inv σ' (T + 1) → J Γ (Af N0) RP l RX0 "law" cL_law 7 (some .boolean) [] 20 mc ms QP X0 b8 c8 (PL Γ K N0 N1 N3 o mm ou adm σ' σ' w') 2280 [some (.ref b), some (.ref o), some (.ref mm), some (.ref ou), some (IV i), none, none] []) : J Γ (Af N0) RP l RX0 "law" cL_law 7 (some .boolean) [] 20 mc ms QP X0 b9 c9 (PL Γ K N0 N1 N3 o mm ou adm σ σ w) 702 [some (.ref b), some (.ref o), some (.ref mm), some (.ref ou), some (IV i), none, none] [] := by
  refine jp_wk (fun H h => PL.at0 h) ?_
  obtain ⟨p0, hp0⟩ : ∃ p : Int, p = (xs (i + 1).toNat).toInt := ⟨_, rfl⟩
  have r0 : RR p0 := by rw [hp0]; exact rrI _
  obtain ⟨p1, hp1⟩ : ∃ p : Int, p = (xs (i + 2).toNat).toInt := ⟨_, rfl⟩
  have r1 : RR p1 := by rw [hp1]; exact rrI _
  obtain ⟨t, res, fin, ht, hz, hC, hM⟩ := op_dwells (l := l) hfl L hW hT hI p0 p1 r0 r1
  have hS9 : ∀ (c : Nat), c ≤ 36400 → c8 + c ≤ c9 := fun c h => by omega
  refine j_aload_n (pc := 702) dL_law_702 rfl ?_
  refine j_aload_n (pc := 703) dL_law_703 rfl ?_
  refine j_iload (pc := 704) dL_law_704 rfl ?_
  refine j_iconst (pc := 706) dL_law_706 rfl ?_
  refine j_iadd (pc := 707) dL_law_707 ?_
  refine j_sld (pc := 708) hX hbA (by omega) (by omega) dL_law_708 ?_
  rw [← hp0]
  refine j_aload_n (pc := 709) dL_law_709 rfl ?_
  refine j_iload (pc := 710) dL_law_710 rfl ?_
  refine j_iconst (pc := 712) dL_law_712 rfl ?_
  refine j_iadd (pc := 713) dL_law_713 ?_
  refine j_sld (pc := 714) hX hbA (by omega) (by omega) dL_law_714 ?_
  rw [← hp1]
  refine j_aload_n (pc := 715) dL_law_715 rfl ?_
  refine j_room (cl' := b8 + 5) (sl' := c8 + 24) (by omega) (hS9 24 (by decide)) ?_
  refine j_callSW (pc := 716) (As := [.ref o, IV p0, IV p1, .ref ou]) (rest := []) (hC w) (lw_SW q677 q678 q43 q679) md_yX0_dwells (by decide) (by decide) rfl (Nat.le_of_ble_eq_true rfl) dL_law_716 (fun v P hq => ?_)
  obtain ⟨w1, rfl, hw1, rfl⟩ := hq
  refine j_istore (pc := 719) dL_law_719 (by decide) (lo' := [some (.ref b), some (.ref o), some (.ref mm), some (.ref ou), some (IV i), some (IV t), none]) rfl ?_
  refine j_aload_n (pc := 721) dL_law_721 rfl ?_
  refine j_aload_n (pc := 722) dL_law_722 rfl ?_
  refine j_iload (pc := 723) dL_law_723 rfl ?_
  refine j_iconst (pc := 725) dL_law_725 rfl ?_
  refine j_iadd (pc := 726) dL_law_726 ?_
  refine j_sld (pc := 727) hX hbA (by omega) (by omega) dL_law_727 ?_
  rw [← hp0]
  refine j_aload_n (pc := 728) dL_law_728 rfl ?_
  refine j_iload (pc := 729) dL_law_729 rfl ?_
  refine j_iconst (pc := 731) dL_law_731 rfl ?_
  refine j_iadd (pc := 732) dL_law_732 ?_
  refine j_sld (pc := 733) hX hbA (by omega) (by omega) dL_law_733 ?_
  rw [← hp1]
  refine j_room (cl' := b8 + 0) (sl' := c8 + 0) (by omega) (by omega) ?_
  refine j_callV (pc := 734) (As := [IV p0, IV p1]) (rest := []) (hM _ _) (lw_V q1606 q1607 q1608 q48 q1609) rfl md_yX2_dwells PL.rcM (by decide) (by decide) rfl (Nat.le_of_ble_eq_true rfl) dL_law_734 (fun v P hq => ?_)
  obtain ⟨r, σ', rfl, hE, rfl⟩ := hq
  refine j_istore (pc := 737) dL_law_737 (by decide) (lo' := [some (.ref b), some (.ref o), some (.ref mm), some (.ref ou), some (IV i), some (IV t), some (IV r)]) rfl ?_
  refine j_aload_n (pc := 739) dL_law_739 rfl ?_
  refine j_room (cl' := b8 + 0) (sl' := c8 + 0) (by omega) (by omega) ?_
  refine j_callV (pc := 740) (As := []) (rest := []) (PL.ref L (m_thrown σ' hE.2.2.1.1.1)) (lw_V q1521 q1522 q1523 q48 q1524) rfl md_yX2_thrown PL.rcM (by decide) (by decide) rfl (Nat.le_of_ble_eq_true rfl) dL_law_740 (fun v P hq => ?_)
  obtain ⟨r2', σ2, rfl, ⟨e1, e2⟩, rfl⟩ := hq
  rw [e2, e1, hE.2.1]
  refine j_iload (pc := 743) dL_law_743 rfl ?_
  refine j_icmp_eq (pc := 745) (tgt := 750) dL_law_745 (by decide) (by omega) (by omega) (fun c => ?_) (fun c => absurd rfl c)
  refine j_iload (pc := 750) dL_law_750 rfl ?_
  refine j_if_ne (pc := 752) (tgt := 767) dL_law_752 (by decide) (by omega) (fun c => ?_) (fun c => ?_)
  · refine j_goto (pc := 767) (tgt := 2280) dL_law_767 (by decide) ?_
    refine j_sub (lo' := [some (.ref b), some (.ref o), some (.ref mm), some (.ref ou), some (IV i), none, none]) ⟨Or.inr rfl, Or.inr rfl, Or.inr rfl, Or.inr rfl, Or.inr rfl, Or.inl rfl, Or.inl rfl, trivial⟩ ?_
    refine j_room (cl' := b8) (sl' := c8) (by omega) (by omega) ?_
    exact jp_wk (fun H h => PL.gs hE.2.2.2.1 hE.2.2.2.2 h) (kk σ' _ hE.2.2.1)
  · refine j_aload_n (pc := 755) dL_law_755 rfl ?_
    refine j_iconst (pc := 756) dL_law_756 rfl ?_
    refine jp_lald (pc := 757) PL.cw dL_law_757 ?_
    rw [hw1 c]
    refine j_iload (pc := 758) dL_law_758 rfl ?_
    rw [hE.1 c, IVw res]
    refine j_i2l (pc := 760) dL_law_760 (rrI _) ?_
    refine j_lcmpE (pc := 761) dL_law_761 ?_
    refine j_if_eq (pc := 762) (tgt := 767) dL_law_762 (by decide) (by decide) (fun c9 => ?_) (fun c9 => absurd rfl c9)
    refine j_goto (pc := 767) (tgt := 2280) dL_law_767 (by decide) ?_
    refine j_sub (lo' := [some (.ref b), some (.ref o), some (.ref mm), some (.ref ou), some (IV i), none, none]) ⟨Or.inr rfl, Or.inr rfl, Or.inr rfl, Or.inr rfl, Or.inr rfl, Or.inl rfl, Or.inl rfl, trivial⟩ ?_
    refine j_room (cl' := b8) (sl' := c8) (by omega) (by omega) ?_
    exact jp_wk (fun H h => PL.gs hE.2.2.2.1 hE.2.2.2.2 h) (kk σ' _ hE.2.2.1)

theorem md_yX0_call : MD yX0_call 5 := by decide +kernel
theorem md_yX2_call : MD yX2_call 3 := by decide +kernel
set_option maxHeartbeats 4000000 in
theorem lc_8 {Γ : GG} {K : KK} {l : Launch} {N0 N1 N3 o mm ou : Nat} {adm : Nat → Nat} {b LL : Nat} {xs : Nat → Int32} {QP : Option Value → (Heap → Prop) → Prop} {mc ms b8 c8 b9 c9 : Nat} (hfl : l.stackTraces = false) (L : Lie N0 N1 N3 o mm ou adm) (hW : Wd (GE Γ N3) (ACo N0 N1 N3) K) (hX : ∀ (s : State) (H : Heap), Γ.2.2 s H → va_X b LL xs s H) (hbA : ¬ Af N0 b) (hLL : LL ≤ 256) {σ : MM} {T : Nat} (hT : T < 64) (hI : Inv σ T) {w i : Int} (hi : 0 ≤ i ∧ i + 4 ≤ (LL : Int)) (hb : b8 + 300 ≤ b9) (hc : c8 + 36400 ≤ c9) (kk : ∀ (σ' : MM) (w' : Int), Inv σ' (T + 1) → J Γ (Af N0) RP l RX0 "law" cL_law 7 (some .boolean) [] 20 mc ms QP X0 b8 c8 (PL Γ K N0 N1 N3 o mm ou adm σ' σ' w') 2280 [some (.ref b), some (.ref o), some (.ref mm), some (.ref ou), some (IV i), none, none] []) : J Γ (Af N0) RP l RX0 "law" cL_law 7 (some .boolean) [] 20 mc ms QP X0 b9 c9 (PL Γ K N0 N1 N3 o mm ou adm σ σ w) 770 [some (.ref b), some (.ref o), some (.ref mm), some (.ref ou), some (IV i), none, none] [] := by
  refine jp_wk (fun H h => PL.at0 h) ?_
  obtain ⟨p0, hp0⟩ : ∃ p : Int, p = (xs (i + 1).toNat).toInt := ⟨_, rfl⟩
  have r0 : RR p0 := by rw [hp0]; exact rrI _
  obtain ⟨p1, hp1⟩ : ∃ p : Int, p = (xs (i + 2).toNat).toInt := ⟨_, rfl⟩
  have r1 : RR p1 := by rw [hp1]; exact rrI _
  obtain ⟨p2, hp2⟩ : ∃ p : Int, p = (xs (i + 3).toNat).toInt := ⟨_, rfl⟩
  have r2 : RR p2 := by rw [hp2]; exact rrI _
  obtain ⟨pb, hpb⟩ : ∃ p : Int, p = bI (¬ p2 = 0) := ⟨_, rfl⟩
  have hb2 : pb = 0 ∨ pb = 1 := by rw [hpb]; exact bI_01 _
  obtain ⟨t, res, fin, ht, hz, hC, hM⟩ := op_call (l := l) hfl L hW hT hI p0 p1 pb r0 r1 (by omega) hb2
  have hS9 : ∀ (c : Nat), c ≤ 36400 → c8 + c ≤ c9 := fun c h => by omega
  refine j_aload_n (pc := 770) dL_law_770 rfl ?_
  refine j_aload_n (pc := 771) dL_law_771 rfl ?_
  refine j_iload (pc := 772) dL_law_772 rfl ?_
  refine j_iconst (pc := 774) dL_law_774 rfl ?_
  refine j_iadd (pc := 775) dL_law_775 ?_
  refine j_sld (pc := 776) hX hbA (by omega) (by omega) dL_law_776 ?_
  rw [← hp0]
  refine j_aload_n (pc := 777) dL_law_777 rfl ?_
  refine j_iload (pc := 778) dL_law_778 rfl ?_
  refine j_iconst (pc := 780) dL_law_780 rfl ?_
  refine j_iadd (pc := 781) dL_law_781 ?_
  refine j_sld (pc := 782) hX hbA (by omega) (by omega) dL_law_782 ?_
  rw [← hp1]
  refine j_aload_n (pc := 783) dL_law_783 rfl ?_
  refine j_iload (pc := 784) dL_law_784 rfl ?_
  refine j_iconst (pc := 786) dL_law_786 rfl ?_
  refine j_iadd (pc := 787) dL_law_787 ?_
  refine j_sld (pc := 788) hX hbA (by omega) (by omega) dL_law_788 ?_
  rw [← hp2]
  have hj : J Γ (Af N0) RP l RX0 "law" cL_law 7 (some .boolean) [] 20 mc ms QP X0 b9 c9 (PL Γ K N0 N1 N3 o mm ou adm (σ0 σ) σ w) 797 [some (.ref b), some (.ref o), some (.ref mm), some (.ref ou), some (IV i), none, none] [IV pb, IV p1, IV p0, .ref o] := by
    refine j_aload_n (pc := 797) dL_law_797 rfl ?_
    refine j_room (cl' := b8 + 9) (sl' := c8 + 100) (by omega) (hS9 100 (by decide)) ?_
    refine j_callSW (pc := 798) (As := [.ref o, IV p0, IV p1, IV pb, .ref ou]) (rest := []) (hC w) (lw_SW q688 q689 q43 q690) md_yX0_call (by decide) (by decide) rfl (Nat.le_of_ble_eq_true rfl) dL_law_798 (fun v P hq => ?_)
    obtain ⟨w1, rfl, hw1, rfl⟩ := hq
    refine j_istore (pc := 801) dL_law_801 (by decide) (lo' := [some (.ref b), some (.ref o), some (.ref mm), some (.ref ou), some (IV i), some (IV t), none]) rfl ?_
    refine j_aload_n (pc := 803) dL_law_803 rfl ?_
    refine j_aload_n (pc := 804) dL_law_804 rfl ?_
    refine j_iload (pc := 805) dL_law_805 rfl ?_
    refine j_iconst (pc := 807) dL_law_807 rfl ?_
    refine j_iadd (pc := 808) dL_law_808 ?_
    refine j_sld (pc := 809) hX hbA (by omega) (by omega) dL_law_809 ?_
    rw [← hp0]
    refine j_aload_n (pc := 810) dL_law_810 rfl ?_
    refine j_iload (pc := 811) dL_law_811 rfl ?_
    refine j_iconst (pc := 813) dL_law_813 rfl ?_
    refine j_iadd (pc := 814) dL_law_814 ?_
    refine j_sld (pc := 815) hX hbA (by omega) (by omega) dL_law_815 ?_
    rw [← hp1]
    refine j_aload_n (pc := 816) dL_law_816 rfl ?_
    refine j_iload (pc := 817) dL_law_817 rfl ?_
    refine j_iconst (pc := 819) dL_law_819 rfl ?_
    refine j_iadd (pc := 820) dL_law_820 ?_
    refine j_sld (pc := 821) hX hbA (by omega) (by omega) dL_law_821 ?_
    rw [← hp2]
    have hj : J Γ (Af N0) RP l RX0 "law" cL_law 7 (some .boolean) [] 20 mc ms QP X0 b8 c8 (PL Γ K N0 N1 N3 o mm ou adm (if t = 0 then fin else σ0 σ) σ w1) 830 [some (.ref b), some (.ref o), some (.ref mm), some (.ref ou), some (IV i), some (IV t), none] [IV pb, IV p1, IV p0, .ref mm] := by
      refine j_room (cl' := b8 + 0) (sl' := c8 + 0) (by omega) (by omega) ?_
      refine j_callV (pc := 830) (As := [IV p0, IV p1, IV pb]) (rest := []) (hM _ _) (lw_V q1610 q1611 q1612 q48 q1613) rfl md_yX2_call PL.rcM (by decide) (by decide) rfl (Nat.le_of_ble_eq_true rfl) dL_law_830 (fun v P hq => ?_)
      obtain ⟨r, σ', rfl, hE, rfl⟩ := hq
      refine j_istore (pc := 833) dL_law_833 (by decide) (lo' := [some (.ref b), some (.ref o), some (.ref mm), some (.ref ou), some (IV i), some (IV t), some (IV r)]) rfl ?_
      refine j_aload_n (pc := 835) dL_law_835 rfl ?_
      refine j_room (cl' := b8 + 0) (sl' := c8 + 0) (by omega) (by omega) ?_
      refine j_callV (pc := 836) (As := []) (rest := []) (PL.ref L (m_thrown σ' hE.2.2.1.1.1)) (lw_V q1521 q1522 q1523 q48 q1524) rfl md_yX2_thrown PL.rcM (by decide) (by decide) rfl (Nat.le_of_ble_eq_true rfl) dL_law_836 (fun v P hq => ?_)
      obtain ⟨r2', σ2, rfl, ⟨e1, e2⟩, rfl⟩ := hq
      rw [e2, e1, hE.2.1]
      refine j_iload (pc := 839) dL_law_839 rfl ?_
      refine j_icmp_eq (pc := 841) (tgt := 846) dL_law_841 (by decide) (by omega) (by omega) (fun c => ?_) (fun c => absurd rfl c)
      refine j_iload (pc := 846) dL_law_846 rfl ?_
      refine j_if_ne (pc := 848) (tgt := 863) dL_law_848 (by decide) (by omega) (fun c => ?_) (fun c => ?_)
      · refine j_goto (pc := 863) (tgt := 2280) dL_law_863 (by decide) ?_
        refine j_sub (lo' := [some (.ref b), some (.ref o), some (.ref mm), some (.ref ou), some (IV i), none, none]) ⟨Or.inr rfl, Or.inr rfl, Or.inr rfl, Or.inr rfl, Or.inr rfl, Or.inl rfl, Or.inl rfl, trivial⟩ ?_
        refine j_room (cl' := b8) (sl' := c8) (by omega) (by omega) ?_
        exact jp_wk (fun H h => PL.gs hE.2.2.2.1 hE.2.2.2.2 h) (kk σ' _ hE.2.2.1)
      · refine j_aload_n (pc := 851) dL_law_851 rfl ?_
        refine j_iconst (pc := 852) dL_law_852 rfl ?_
        refine jp_lald (pc := 853) PL.cw dL_law_853 ?_
        rw [hw1 c]
        refine j_iload (pc := 854) dL_law_854 rfl ?_
        rw [hE.1 c, IVw res]
        refine j_i2l (pc := 856) dL_law_856 (rrI _) ?_
        refine j_lcmpE (pc := 857) dL_law_857 ?_
        refine j_if_eq (pc := 858) (tgt := 863) dL_law_858 (by decide) (by decide) (fun c9 => ?_) (fun c9 => absurd rfl c9)
        refine j_goto (pc := 863) (tgt := 2280) dL_law_863 (by decide) ?_
        refine j_sub (lo' := [some (.ref b), some (.ref o), some (.ref mm), some (.ref ou), some (IV i), none, none]) ⟨Or.inr rfl, Or.inr rfl, Or.inr rfl, Or.inr rfl, Or.inr rfl, Or.inl rfl, Or.inl rfl, trivial⟩ ?_
        refine j_room (cl' := b8) (sl' := c8) (by omega) (by omega) ?_
        exact jp_wk (fun H h => PL.gs hE.2.2.2.1 hE.2.2.2.2 h) (kk σ' _ hE.2.2.1)
    refine j_if_eq (pc := 822) (tgt := 829) dL_law_822 (by decide) r2 (fun c => ?_) (fun c => ?_)
    · refine j_iconst (pc := 829) dL_law_829 rfl ?_
      rw [show pb = 0 from by rw [hpb]; exact if_neg (fun h => h c)] at hj
      exact hj
    · refine j_iconst (pc := 825) dL_law_825 rfl ?_
      refine j_goto (pc := 826) (tgt := 830) dL_law_826 (by decide) ?_
      rw [show pb = 1 from by rw [hpb]; exact if_pos c] at hj
      exact hj
  refine j_if_eq (pc := 789) (tgt := 796) dL_law_789 (by decide) r2 (fun c => ?_) (fun c => ?_)
  · refine j_iconst (pc := 796) dL_law_796 rfl ?_
    rw [show pb = 0 from by rw [hpb]; exact if_neg (fun h => h c)] at hj
    exact hj
  · refine j_iconst (pc := 792) dL_law_792 rfl ?_
    refine j_goto (pc := 793) (tgt := 797) dL_law_793 (by decide) ?_
    rw [show pb = 1 from by rw [hpb]; exact if_pos c] at hj
    exact hj

theorem md_yX0_seed : MD yX0_seed 4 := by decide +kernel
theorem md_yX2_seed : MD yX2_seed 2 := by decide +kernel
set_option maxHeartbeats 4000000 in
theorem lc_9 {Γ : GG} {K : KK} {l : Launch} {N0 N1 N3 o mm ou : Nat} {adm : Nat → Nat} {b LL : Nat} {xs : Nat → Int32} {QP : Option Value → (Heap → Prop) → Prop} {mc ms b8 c8 b9 c9 : Nat} (hfl : l.stackTraces = false) (L : Lie N0 N1 N3 o mm ou adm) (hW : Wd (GE Γ N3) (ACo N0 N1 N3) K) (hX : ∀ (s : State) (H : Heap), Γ.2.2 s H → va_X b LL xs s H) (hbA : ¬ Af N0 b) (hLL : LL ≤ 256) {σ : MM} {T : Nat} (hT : T < 64) (hI : Inv σ T) {w i : Int} (hi : 0 ≤ i ∧ i + 4 ≤ (LL : Int)) (hb : b8 + 300 ≤ b9) (hc : c8 + 36400 ≤ c9) (kk : ∀ (σ' : MM) (w' : Int), Inv σ' (T + 1) → J Γ (Af N0) RP l RX0 "law" cL_law 7 (some .boolean) [] 20 mc ms QP X0 b8 c8 (PL Γ K N0 N1 N3 o mm ou adm σ' σ' w') 2280 [some (.ref b), some (.ref o), some (.ref mm), some (.ref ou), some (IV i), none, none] []) : J Γ (Af N0) RP l RX0 "law" cL_law 7 (some .boolean) [] 20 mc ms QP X0 b9 c9 (PL Γ K N0 N1 N3 o mm ou adm σ σ w) 866 [some (.ref b), some (.ref o), some (.ref mm), some (.ref ou), some (IV i), none, none] [] := by
  refine jp_wk (fun H h => PL.at0 h) ?_
  obtain ⟨p0, hp0⟩ : ∃ p : Int, p = (xs (i + 1).toNat).toInt := ⟨_, rfl⟩
  have r0 : RR p0 := by rw [hp0]; exact rrI _
  obtain ⟨p1, hp1⟩ : ∃ p : Int, p = (xs (i + 2).toNat).toInt := ⟨_, rfl⟩
  have r1 : RR p1 := by rw [hp1]; exact rrI _
  obtain ⟨t, res, fin, ht, hz, hC, hM⟩ := op_seed (l := l) hfl L hW hT hI p0 p1 r0 r1
  have hS9 : ∀ (c : Nat), c ≤ 36400 → c8 + c ≤ c9 := fun c h => by omega
  refine j_aload_n (pc := 866) dL_law_866 rfl ?_
  refine j_aload_n (pc := 867) dL_law_867 rfl ?_
  refine j_iload (pc := 868) dL_law_868 rfl ?_
  refine j_iconst (pc := 870) dL_law_870 rfl ?_
  refine j_iadd (pc := 871) dL_law_871 ?_
  refine j_sld (pc := 872) hX hbA (by omega) (by omega) dL_law_872 ?_
  rw [← hp0]
  refine j_aload_n (pc := 873) dL_law_873 rfl ?_
  refine j_iload (pc := 874) dL_law_874 rfl ?_
  refine j_iconst (pc := 876) dL_law_876 rfl ?_
  refine j_iadd (pc := 877) dL_law_877 ?_
  refine j_sld (pc := 878) hX hbA (by omega) (by omega) dL_law_878 ?_
  rw [← hp1]
  refine j_aload_n (pc := 879) dL_law_879 rfl ?_
  refine j_room (cl' := b8 + 4) (sl' := c8 + 20) (by omega) (hS9 20 (by decide)) ?_
  refine j_callSW (pc := 880) (As := [.ref o, IV p0, IV p1, .ref ou]) (rest := []) (hC w) (lw_SW q755 q756 q43 q757) md_yX0_seed (by decide) (by decide) rfl (Nat.le_of_ble_eq_true rfl) dL_law_880 (fun v P hq => ?_)
  obtain ⟨w1, rfl, hw1, rfl⟩ := hq
  refine j_istore (pc := 883) dL_law_883 (by decide) (lo' := [some (.ref b), some (.ref o), some (.ref mm), some (.ref ou), some (IV i), some (IV t), none]) rfl ?_
  refine j_aload_n (pc := 885) dL_law_885 rfl ?_
  refine j_aload_n (pc := 886) dL_law_886 rfl ?_
  refine j_iload (pc := 887) dL_law_887 rfl ?_
  refine j_iconst (pc := 889) dL_law_889 rfl ?_
  refine j_iadd (pc := 890) dL_law_890 ?_
  refine j_sld (pc := 891) hX hbA (by omega) (by omega) dL_law_891 ?_
  rw [← hp0]
  refine j_aload_n (pc := 892) dL_law_892 rfl ?_
  refine j_iload (pc := 893) dL_law_893 rfl ?_
  refine j_iconst (pc := 895) dL_law_895 rfl ?_
  refine j_iadd (pc := 896) dL_law_896 ?_
  refine j_sld (pc := 897) hX hbA (by omega) (by omega) dL_law_897 ?_
  rw [← hp1]
  refine j_room (cl' := b8 + 0) (sl' := c8 + 0) (by omega) (by omega) ?_
  refine j_callV (pc := 898) (As := [IV p0, IV p1]) (rest := []) (hM _ _) (lw_V q1614 q1615 q1616 q48 q1617) rfl md_yX2_seed PL.rcM (by decide) (by decide) rfl (Nat.le_of_ble_eq_true rfl) dL_law_898 (fun v P hq => ?_)
  obtain ⟨r, σ', rfl, hE, rfl⟩ := hq
  refine j_istore (pc := 901) dL_law_901 (by decide) (lo' := [some (.ref b), some (.ref o), some (.ref mm), some (.ref ou), some (IV i), some (IV t), some (IV r)]) rfl ?_
  refine j_aload_n (pc := 903) dL_law_903 rfl ?_
  refine j_room (cl' := b8 + 0) (sl' := c8 + 0) (by omega) (by omega) ?_
  refine j_callV (pc := 904) (As := []) (rest := []) (PL.ref L (m_thrown σ' hE.2.2.1.1.1)) (lw_V q1521 q1522 q1523 q48 q1524) rfl md_yX2_thrown PL.rcM (by decide) (by decide) rfl (Nat.le_of_ble_eq_true rfl) dL_law_904 (fun v P hq => ?_)
  obtain ⟨r2', σ2, rfl, ⟨e1, e2⟩, rfl⟩ := hq
  rw [e2, e1, hE.2.1]
  refine j_iload (pc := 907) dL_law_907 rfl ?_
  refine j_icmp_eq (pc := 909) (tgt := 914) dL_law_909 (by decide) (by omega) (by omega) (fun c => ?_) (fun c => absurd rfl c)
  refine j_iload (pc := 914) dL_law_914 rfl ?_
  refine j_if_ne (pc := 916) (tgt := 931) dL_law_916 (by decide) (by omega) (fun c => ?_) (fun c => ?_)
  · refine j_goto (pc := 931) (tgt := 2280) dL_law_931 (by decide) ?_
    refine j_sub (lo' := [some (.ref b), some (.ref o), some (.ref mm), some (.ref ou), some (IV i), none, none]) ⟨Or.inr rfl, Or.inr rfl, Or.inr rfl, Or.inr rfl, Or.inr rfl, Or.inl rfl, Or.inl rfl, trivial⟩ ?_
    refine j_room (cl' := b8) (sl' := c8) (by omega) (by omega) ?_
    exact jp_wk (fun H h => PL.gs hE.2.2.2.1 hE.2.2.2.2 h) (kk σ' _ hE.2.2.1)
  · refine j_aload_n (pc := 919) dL_law_919 rfl ?_
    refine j_iconst (pc := 920) dL_law_920 rfl ?_
    refine jp_lald (pc := 921) PL.cw dL_law_921 ?_
    rw [hw1 c]
    refine j_iload (pc := 922) dL_law_922 rfl ?_
    rw [hE.1 c, IVw res]
    refine j_i2l (pc := 924) dL_law_924 (rrI _) ?_
    refine j_lcmpE (pc := 925) dL_law_925 ?_
    refine j_if_eq (pc := 926) (tgt := 931) dL_law_926 (by decide) (by decide) (fun c9 => ?_) (fun c9 => absurd rfl c9)
    refine j_goto (pc := 931) (tgt := 2280) dL_law_931 (by decide) ?_
    refine j_sub (lo' := [some (.ref b), some (.ref o), some (.ref mm), some (.ref ou), some (IV i), none, none]) ⟨Or.inr rfl, Or.inr rfl, Or.inr rfl, Or.inr rfl, Or.inr rfl, Or.inl rfl, Or.inl rfl, trivial⟩ ?_
    refine j_room (cl' := b8) (sl' := c8) (by omega) (by omega) ?_
    exact jp_wk (fun H h => PL.gs hE.2.2.2.1 hE.2.2.2.2 h) (kk σ' _ hE.2.2.1)

theorem md_yX0_advance : MD yX0_advance 3 := by decide +kernel
theorem md_yX2_advance : MD yX2_advance 1 := by decide +kernel
set_option maxHeartbeats 4000000 in
theorem lc_10 {Γ : GG} {K : KK} {l : Launch} {N0 N1 N3 o mm ou : Nat} {adm : Nat → Nat} {b LL : Nat} {xs : Nat → Int32} {QP : Option Value → (Heap → Prop) → Prop} {mc ms b8 c8 b9 c9 : Nat} (hfl : l.stackTraces = false) (L : Lie N0 N1 N3 o mm ou adm) (hW : Wd (GE Γ N3) (ACo N0 N1 N3) K) (hX : ∀ (s : State) (H : Heap), Γ.2.2 s H → va_X b LL xs s H) (hbA : ¬ Af N0 b) (hLL : LL ≤ 256) {σ : MM} {T : Nat} (hT : T < 64) (hI : Inv σ T) {w i : Int} (hi : 0 ≤ i ∧ i + 4 ≤ (LL : Int)) (hb : b8 + 300 ≤ b9) (hc : c8 + 36400 ≤ c9) (kk : ∀ (σ' : MM) (w' : Int), Inv σ' (T + 1) → J Γ (Af N0) RP l RX0 "law" cL_law 7 (some .boolean) [] 20 mc ms QP X0 b8 c8 (PL Γ K N0 N1 N3 o mm ou adm σ' σ' w') 2280 [some (.ref b), some (.ref o), some (.ref mm), some (.ref ou), some (IV i), none, none] []) : J Γ (Af N0) RP l RX0 "law" cL_law 7 (some .boolean) [] 20 mc ms QP X0 b9 c9 (PL Γ K N0 N1 N3 o mm ou adm σ σ w) 934 [some (.ref b), some (.ref o), some (.ref mm), some (.ref ou), some (IV i), none, none] [] := by
  refine jp_wk (fun H h => PL.at0 h) ?_
  obtain ⟨p0, hp0⟩ : ∃ p : Int, p = (xs (i + 1).toNat).toInt := ⟨_, rfl⟩
  have r0 : RR p0 := by rw [hp0]; exact rrI _
  obtain ⟨t, res, fin, ht, hz, hC, hM⟩ := op_advance (l := l) hfl L hW hT hI p0 r0
  have hS9 : ∀ (c : Nat), c ≤ 36400 → c8 + c ≤ c9 := fun c h => by omega
  refine j_aload_n (pc := 934) dL_law_934 rfl ?_
  refine j_aload_n (pc := 935) dL_law_935 rfl ?_
  refine j_iload (pc := 936) dL_law_936 rfl ?_
  refine j_iconst (pc := 938) dL_law_938 rfl ?_
  refine j_iadd (pc := 939) dL_law_939 ?_
  refine j_sld (pc := 940) hX hbA (by omega) (by omega) dL_law_940 ?_
  rw [← hp0]
  refine j_aload_n (pc := 941) dL_law_941 rfl ?_
  refine j_room (cl' := b8 + 270) (sl' := c8 + 36300) (by omega) (hS9 36300 (by decide)) ?_
  refine j_callSW (pc := 942) (As := [.ref o, IV p0, .ref ou]) (rest := []) (hC w) (lw_SW q762 q763 q43 q764) md_yX0_advance (by decide) (by decide) rfl (Nat.le_of_ble_eq_true rfl) dL_law_942 (fun v P hq => ?_)
  obtain ⟨w1, rfl, hw1, rfl⟩ := hq
  refine j_istore (pc := 945) dL_law_945 (by decide) (lo' := [some (.ref b), some (.ref o), some (.ref mm), some (.ref ou), some (IV i), some (IV t), none]) rfl ?_
  refine j_aload_n (pc := 947) dL_law_947 rfl ?_
  refine j_aload_n (pc := 948) dL_law_948 rfl ?_
  refine j_iload (pc := 949) dL_law_949 rfl ?_
  refine j_iconst (pc := 951) dL_law_951 rfl ?_
  refine j_iadd (pc := 952) dL_law_952 ?_
  refine j_sld (pc := 953) hX hbA (by omega) (by omega) dL_law_953 ?_
  rw [← hp0]
  refine j_room (cl' := b8 + 0) (sl' := c8 + 0) (by omega) (by omega) ?_
  refine j_callV (pc := 954) (As := [IV p0]) (rest := []) (hM _ _) (lw_V q1618 q1619 q1620 q48 q1621) rfl md_yX2_advance PL.rcM (by decide) (by decide) rfl (Nat.le_of_ble_eq_true rfl) dL_law_954 (fun v P hq => ?_)
  obtain ⟨r, σ', rfl, hE, rfl⟩ := hq
  refine j_istore (pc := 957) dL_law_957 (by decide) (lo' := [some (.ref b), some (.ref o), some (.ref mm), some (.ref ou), some (IV i), some (IV t), some (IV r)]) rfl ?_
  refine j_aload_n (pc := 959) dL_law_959 rfl ?_
  refine j_room (cl' := b8 + 0) (sl' := c8 + 0) (by omega) (by omega) ?_
  refine j_callV (pc := 960) (As := []) (rest := []) (PL.ref L (m_thrown σ' hE.2.2.1.1.1)) (lw_V q1521 q1522 q1523 q48 q1524) rfl md_yX2_thrown PL.rcM (by decide) (by decide) rfl (Nat.le_of_ble_eq_true rfl) dL_law_960 (fun v P hq => ?_)
  obtain ⟨r2', σ2, rfl, ⟨e1, e2⟩, rfl⟩ := hq
  rw [e2, e1, hE.2.1]
  refine j_iload (pc := 963) dL_law_963 rfl ?_
  refine j_icmp_eq (pc := 965) (tgt := 970) dL_law_965 (by decide) (by omega) (by omega) (fun c => ?_) (fun c => absurd rfl c)
  refine j_iload (pc := 970) dL_law_970 rfl ?_
  refine j_if_ne (pc := 972) (tgt := 987) dL_law_972 (by decide) (by omega) (fun c => ?_) (fun c => ?_)
  · refine j_goto (pc := 987) (tgt := 2280) dL_law_987 (by decide) ?_
    refine j_sub (lo' := [some (.ref b), some (.ref o), some (.ref mm), some (.ref ou), some (IV i), none, none]) ⟨Or.inr rfl, Or.inr rfl, Or.inr rfl, Or.inr rfl, Or.inr rfl, Or.inl rfl, Or.inl rfl, trivial⟩ ?_
    refine j_room (cl' := b8) (sl' := c8) (by omega) (by omega) ?_
    exact jp_wk (fun H h => PL.gs hE.2.2.2.1 hE.2.2.2.2 h) (kk σ' _ hE.2.2.1)
  · refine j_aload_n (pc := 975) dL_law_975 rfl ?_
    refine j_iconst (pc := 976) dL_law_976 rfl ?_
    refine jp_lald (pc := 977) PL.cw dL_law_977 ?_
    rw [hw1 c]
    refine j_iload (pc := 978) dL_law_978 rfl ?_
    rw [hE.1 c, IVw res]
    refine j_i2l (pc := 980) dL_law_980 (rrI _) ?_
    refine j_lcmpE (pc := 981) dL_law_981 ?_
    refine j_if_eq (pc := 982) (tgt := 987) dL_law_982 (by decide) (by decide) (fun c9 => ?_) (fun c9 => absurd rfl c9)
    refine j_goto (pc := 987) (tgt := 2280) dL_law_987 (by decide) ?_
    refine j_sub (lo' := [some (.ref b), some (.ref o), some (.ref mm), some (.ref ou), some (IV i), none, none]) ⟨Or.inr rfl, Or.inr rfl, Or.inr rfl, Or.inr rfl, Or.inr rfl, Or.inl rfl, Or.inl rfl, trivial⟩ ?_
    refine j_room (cl' := b8) (sl' := c8) (by omega) (by omega) ?_
    exact jp_wk (fun H h => PL.gs hE.2.2.2.1 hE.2.2.2.2 h) (kk σ' _ hE.2.2.1)

theorem md_yX1_today : MD yX1_today 0 := by decide +kernel
theorem md_yX2_today : MD yX2_today 0 := by decide +kernel
set_option maxHeartbeats 4000000 in
theorem lc_11 {Γ : GG} {K : KK} {l : Launch} {N0 N1 N3 o mm ou : Nat} {adm : Nat → Nat} {b LL : Nat} {xs : Nat → Int32} {QP : Option Value → (Heap → Prop) → Prop} {mc ms b8 c8 b9 c9 : Nat} (hfl : l.stackTraces = false) (L : Lie N0 N1 N3 o mm ou adm) (hW : Wd (GE Γ N3) (ACo N0 N1 N3) K) (hX : ∀ (s : State) (H : Heap), Γ.2.2 s H → va_X b LL xs s H) (hbA : ¬ Af N0 b) (hLL : LL ≤ 256) {σ : MM} {T : Nat} (hT : T < 64) (hI : Inv σ T) {w i : Int} (hi : 0 ≤ i ∧ i + 4 ≤ (LL : Int)) (hb : b8 + 300 ≤ b9) (hc : c8 + 36400 ≤ c9) (kk : ∀ (σ' : MM) (w' : Int), Inv σ' (T + 1) → J Γ (Af N0) RP l RX0 "law" cL_law 7 (some .boolean) [] 20 mc ms QP X0 b8 c8 (PL Γ K N0 N1 N3 o mm ou adm σ' σ' w') 2280 [some (.ref b), some (.ref o), some (.ref mm), some (.ref ou), some (IV i), none, none] []) : J Γ (Af N0) RP l RX0 "law" cL_law 7 (some .boolean) [] 20 mc ms QP X0 b9 c9 (PL Γ K N0 N1 N3 o mm ou adm σ σ w) 990 [some (.ref b), some (.ref o), some (.ref mm), some (.ref ou), some (IV i), none, none] [] := by
  refine jp_wk (fun H h => PL.at0 h) ?_
  obtain ⟨res, hC, hM⟩ := od_today (l := l) L hW hI
  refine j_aload_n (pc := 990) dL_law_990 rfl ?_
  refine j_room (cl' := b8 + 0) (sl' := c8 + 0) (by omega) (by omega) ?_
  refine j_callV (pc := 991) (As := []) (rest := []) (hC w) (lw_V q142 q143 q144 q44 q145) rfl md_yX1_today PL.rcC (by decide) (by decide) rfl (Nat.le_of_ble_eq_true rfl) dL_law_991 (fun v P hq => ?_)
  obtain ⟨rfl, rfl⟩ := hq
  refine j_aload_n (pc := 994) dL_law_994 rfl ?_
  refine j_room (cl' := b8 + 0) (sl' := c8 + 0) (by omega) (by omega) ?_
  refine j_callV (pc := 995) (As := []) (rest := [IV res]) (hM w) (lw_V q1638 q1639 q1640 q48 q1641) rfl md_yX2_today PL.rcM (by decide) (by decide) rfl (Nat.le_of_ble_eq_true rfl) dL_law_995 (fun v P hq => ?_)
  obtain ⟨r, σ', rfl, hE, rfl⟩ := hq
  rw [hE.1 rfl, IVw res]
  refine j_icmp_eq (pc := 998) (tgt := 2280) dL_law_998 (by decide) (rrI _) (rrI _) (fun c => ?_) (fun c => absurd rfl c)
  refine j_sub (lo' := [some (.ref b), some (.ref o), some (.ref mm), some (.ref ou), some (IV i), none, none]) ⟨Or.inr rfl, Or.inr rfl, Or.inr rfl, Or.inr rfl, Or.inr rfl, Or.inr rfl, Or.inr rfl, trivial⟩ ?_
  refine j_room (cl' := b8) (sl' := c8) (by omega) (by omega) ?_
  exact jp_wk (fun H h => PL.gs hE.2.2.2.1 hE.2.2.2.2 h) (kk σ' _ hE.2.2.1)

theorem md_yX2_stage : MD yX2_stage 0 := by decide +kernel
set_option maxHeartbeats 4000000 in
theorem lc_12 {Γ : GG} {K : KK} {l : Launch} {N0 N1 N3 o mm ou : Nat} {adm : Nat → Nat} {b LL : Nat} {xs : Nat → Int32} {QP : Option Value → (Heap → Prop) → Prop} {mc ms b8 c8 b9 c9 : Nat} (hfl : l.stackTraces = false) (L : Lie N0 N1 N3 o mm ou adm) (hW : Wd (GE Γ N3) (ACo N0 N1 N3) K) (hX : ∀ (s : State) (H : Heap), Γ.2.2 s H → va_X b LL xs s H) (hbA : ¬ Af N0 b) (hLL : LL ≤ 256) {σ : MM} {T : Nat} (hT : T < 64) (hI : Inv σ T) {w i : Int} (hi : 0 ≤ i ∧ i + 4 ≤ (LL : Int)) (hb : b8 + 300 ≤ b9) (hc : c8 + 36400 ≤ c9) (kk : ∀ (σ' : MM) (w' : Int), Inv σ' (T + 1) → J Γ (Af N0) RP l RX0 "law" cL_law 7 (some .boolean) [] 20 mc ms QP X0 b8 c8 (PL Γ K N0 N1 N3 o mm ou adm σ' σ' w') 2280 [some (.ref b), some (.ref o), some (.ref mm), some (.ref ou), some (IV i), none, none] []) : J Γ (Af N0) RP l RX0 "law" cL_law 7 (some .boolean) [] 20 mc ms QP X0 b9 c9 (PL Γ K N0 N1 N3 o mm ou adm σ σ w) 1003 [some (.ref b), some (.ref o), some (.ref mm), some (.ref ou), some (IV i), none, none] [] := by
  refine jp_wk (fun H h => PL.at0 h) ?_
  obtain ⟨res, hC, hM⟩ := od_stage (l := l) L hW hI
  refine j_aload_n (pc := 1003) dL_law_1003 rfl ?_
  refine j_room (cl' := b8 + 0) (sl' := c8 + 0) (by omega) (by omega) ?_
  refine j_callV (pc := 1004) (As := []) (rest := []) (hC w) (lw_V q146 q147 q148 q44 q149) rfl md_yX1_stage PL.rcC (by decide) (by decide) rfl (Nat.le_of_ble_eq_true rfl) dL_law_1004 (fun v P hq => ?_)
  obtain ⟨rfl, rfl⟩ := hq
  refine j_aload_n (pc := 1007) dL_law_1007 rfl ?_
  refine j_room (cl' := b8 + 0) (sl' := c8 + 0) (by omega) (by omega) ?_
  refine j_callV (pc := 1008) (As := []) (rest := [IV res]) (hM w) (lw_V q1646 q1647 q1648 q48 q1649) rfl md_yX2_stage PL.rcM (by decide) (by decide) rfl (Nat.le_of_ble_eq_true rfl) dL_law_1008 (fun v P hq => ?_)
  obtain ⟨r, σ', rfl, hE, rfl⟩ := hq
  rw [hE.1 rfl, IVw res]
  refine j_icmp_eq (pc := 1011) (tgt := 2280) dL_law_1011 (by decide) (rrI _) (rrI _) (fun c => ?_) (fun c => absurd rfl c)
  refine j_sub (lo' := [some (.ref b), some (.ref o), some (.ref mm), some (.ref ou), some (IV i), none, none]) ⟨Or.inr rfl, Or.inr rfl, Or.inr rfl, Or.inr rfl, Or.inr rfl, Or.inr rfl, Or.inr rfl, trivial⟩ ?_
  refine j_room (cl' := b8) (sl' := c8) (by omega) (by omega) ?_
  exact jp_wk (fun H h => PL.gs hE.2.2.2.1 hE.2.2.2.2 h) (kk σ' _ hE.2.2.1)

theorem md_yX0_isOnRoll : MD yX0_isOnRoll 3 := by decide +kernel
theorem md_yX2_isOnRoll : MD yX2_isOnRoll 1 := by decide +kernel
set_option maxHeartbeats 4000000 in
theorem lc_13 {Γ : GG} {K : KK} {l : Launch} {N0 N1 N3 o mm ou : Nat} {adm : Nat → Nat} {b LL : Nat} {xs : Nat → Int32} {QP : Option Value → (Heap → Prop) → Prop} {mc ms b8 c8 b9 c9 : Nat} (hfl : l.stackTraces = false) (L : Lie N0 N1 N3 o mm ou adm) (hW : Wd (GE Γ N3) (ACo N0 N1 N3) K) (hX : ∀ (s : State) (H : Heap), Γ.2.2 s H → va_X b LL xs s H) (hbA : ¬ Af N0 b) (hLL : LL ≤ 256) {σ : MM} {T : Nat} (hT : T < 64) (hI : Inv σ T) {w i : Int} (hi : 0 ≤ i ∧ i + 4 ≤ (LL : Int)) (hb : b8 + 300 ≤ b9) (hc : c8 + 36400 ≤ c9) (kk : ∀ (σ' : MM) (w' : Int), Inv σ' (T + 1) → J Γ (Af N0) RP l RX0 "law" cL_law 7 (some .boolean) [] 20 mc ms QP X0 b8 c8 (PL Γ K N0 N1 N3 o mm ou adm σ' σ' w') 2280 [some (.ref b), some (.ref o), some (.ref mm), some (.ref ou), some (IV i), none, none] []) : J Γ (Af N0) RP l RX0 "law" cL_law 7 (some .boolean) [] 20 mc ms QP X0 b9 c9 (PL Γ K N0 N1 N3 o mm ou adm σ σ w) 1016 [some (.ref b), some (.ref o), some (.ref mm), some (.ref ou), some (IV i), none, none] [] := by
  refine jp_wk (fun H h => PL.at0 h) ?_
  obtain ⟨p0, hp0⟩ : ∃ p : Int, p = (xs (i + 1).toNat).toInt := ⟨_, rfl⟩
  have r0 : RR p0 := by rw [hp0]; exact rrI _
  obtain ⟨t, res, fin, ht, hz, hC, hM⟩ := op_isOnRoll (l := l) hfl L hW hT hI p0 r0
  have hS9 : ∀ (c : Nat), c ≤ 36400 → c8 + c ≤ c9 := fun c h => by omega
  refine j_aload_n (pc := 1016) dL_law_1016 rfl ?_
  refine j_aload_n (pc := 1017) dL_law_1017 rfl ?_
  refine j_iload (pc := 1018) dL_law_1018 rfl ?_
  refine j_iconst (pc := 1020) dL_law_1020 rfl ?_
  refine j_iadd (pc := 1021) dL_law_1021 ?_
  refine j_sld (pc := 1022) hX hbA (by omega) (by omega) dL_law_1022 ?_
  rw [← hp0]
  refine j_aload_n (pc := 1023) dL_law_1023 rfl ?_
  refine j_room (cl' := b8 + 3) (sl' := c8 + 14) (by omega) (hS9 14 (by decide)) ?_
  refine j_callSW (pc := 1024) (As := [.ref o, IV p0, .ref ou]) (rest := []) (hC w) (lw_SW q841 q842 q43 q843) md_yX0_isOnRoll (by decide) (by decide) rfl (Nat.le_of_ble_eq_true rfl) dL_law_1024 (fun v P hq => ?_)
  obtain ⟨w1, rfl, hw1, rfl⟩ := hq
  refine j_istore (pc := 1027) dL_law_1027 (by decide) (lo' := [some (.ref b), some (.ref o), some (.ref mm), some (.ref ou), some (IV i), some (IV t), none]) rfl ?_
  refine j_aload_n (pc := 1029) dL_law_1029 rfl ?_
  refine j_aload_n (pc := 1030) dL_law_1030 rfl ?_
  refine j_iload (pc := 1031) dL_law_1031 rfl ?_
  refine j_iconst (pc := 1033) dL_law_1033 rfl ?_
  refine j_iadd (pc := 1034) dL_law_1034 ?_
  refine j_sld (pc := 1035) hX hbA (by omega) (by omega) dL_law_1035 ?_
  rw [← hp0]
  refine j_room (cl' := b8 + 0) (sl' := c8 + 0) (by omega) (by omega) ?_
  refine j_callV (pc := 1036) (As := [IV p0]) (rest := []) (hM _ _) (lw_V q1650 q1651 q1652 q48 q1653) rfl md_yX2_isOnRoll PL.rcM (by decide) (by decide) rfl (Nat.le_of_ble_eq_true rfl) dL_law_1036 (fun v P hq => ?_)
  obtain ⟨r, σ', rfl, hE, rfl⟩ := hq
  refine j_istore (pc := 1039) dL_law_1039 (by decide) (lo' := [some (.ref b), some (.ref o), some (.ref mm), some (.ref ou), some (IV i), some (IV t), some (IV r)]) rfl ?_
  refine j_aload_n (pc := 1041) dL_law_1041 rfl ?_
  refine j_room (cl' := b8 + 0) (sl' := c8 + 0) (by omega) (by omega) ?_
  refine j_callV (pc := 1042) (As := []) (rest := []) (PL.ref L (m_thrown σ' hE.2.2.1.1.1)) (lw_V q1521 q1522 q1523 q48 q1524) rfl md_yX2_thrown PL.rcM (by decide) (by decide) rfl (Nat.le_of_ble_eq_true rfl) dL_law_1042 (fun v P hq => ?_)
  obtain ⟨r2', σ2, rfl, ⟨e1, e2⟩, rfl⟩ := hq
  rw [e2, e1, hE.2.1]
  refine j_iload (pc := 1045) dL_law_1045 rfl ?_
  refine j_icmp_eq (pc := 1047) (tgt := 1052) dL_law_1047 (by decide) (by omega) (by omega) (fun c => ?_) (fun c => absurd rfl c)
  refine j_iload (pc := 1052) dL_law_1052 rfl ?_
  refine j_if_ne (pc := 1054) (tgt := 1076) dL_law_1054 (by decide) (by omega) (fun c => ?_) (fun c => ?_)
  · refine j_goto (pc := 1076) (tgt := 2280) dL_law_1076 (by decide) ?_
    refine j_sub (lo' := [some (.ref b), some (.ref o), some (.ref mm), some (.ref ou), some (IV i), none, none]) ⟨Or.inr rfl, Or.inr rfl, Or.inr rfl, Or.inr rfl, Or.inr rfl, Or.inl rfl, Or.inl rfl, trivial⟩ ?_
    refine j_room (cl' := b8) (sl' := c8) (by omega) (by omega) ?_
    exact jp_wk (fun H h => PL.gs hE.2.2.2.1 hE.2.2.2.2 h) (kk σ' _ hE.2.2.1)
  · refine j_aload_n (pc := 1057) dL_law_1057 rfl ?_
    refine j_iconst (pc := 1058) dL_law_1058 rfl ?_
    refine jp_lald (pc := 1059) PL.cw dL_law_1059 ?_
    rw [hw1 c]
    refine j_iload (pc := 1060) dL_law_1060 rfl ?_
    rw [hE.1 c]
    have h01 := hz trivial
    refine j_if_eq (pc := 1062) (tgt := 1069) dL_law_1062 (by decide) (by omega) (fun c2 => ?_) (fun c2 => ?_)
    · refine j_lconst (pc := 1069) (v := Int64.ofInt 0) dL_law_1069 rfl ?_
      rw [show (iI res).toInt = 0 from by rw [show res = 0 from by omega]; rfl]
      refine j_lcmpE (pc := 1070) dL_law_1070 ?_
      refine j_if_eq (pc := 1071) (tgt := 1076) dL_law_1071 (by decide) (by decide) (fun c9 => ?_) (fun c9 => absurd rfl c9)
      refine j_goto (pc := 1076) (tgt := 2280) dL_law_1076 (by decide) ?_
      refine j_sub (lo' := [some (.ref b), some (.ref o), some (.ref mm), some (.ref ou), some (IV i), none, none]) ⟨Or.inr rfl, Or.inr rfl, Or.inr rfl, Or.inr rfl, Or.inr rfl, Or.inl rfl, Or.inl rfl, trivial⟩ ?_
      refine j_room (cl' := b8) (sl' := c8) (by omega) (by omega) ?_
      exact jp_wk (fun H h => PL.gs hE.2.2.2.1 hE.2.2.2.2 h) (kk σ' _ hE.2.2.1)
    · refine j_lconst (pc := 1065) (v := Int64.ofInt 1) dL_law_1065 rfl ?_
      refine j_goto (pc := 1066) (tgt := 1070) dL_law_1066 (by decide) ?_
      rw [show (iI res).toInt = 1 from by rw [show res = 1 from by omega]; rfl]
      refine j_lcmpE (pc := 1070) dL_law_1070 ?_
      refine j_if_eq (pc := 1071) (tgt := 1076) dL_law_1071 (by decide) (by decide) (fun c9 => ?_) (fun c9 => absurd rfl c9)
      refine j_goto (pc := 1076) (tgt := 2280) dL_law_1076 (by decide) ?_
      refine j_sub (lo' := [some (.ref b), some (.ref o), some (.ref mm), some (.ref ou), some (IV i), none, none]) ⟨Or.inr rfl, Or.inr rfl, Or.inr rfl, Or.inr rfl, Or.inr rfl, Or.inl rfl, Or.inl rfl, trivial⟩ ?_
      refine j_room (cl' := b8) (sl' := c8) (by omega) (by omega) ?_
      exact jp_wk (fun H h => PL.gs hE.2.2.2.1 hE.2.2.2.2 h) (kk σ' _ hE.2.2.1)

theorem md_yX0_stationOf : MD yX0_stationOf 3 := by decide +kernel
theorem md_yX2_stationOf : MD yX2_stationOf 1 := by decide +kernel
set_option maxHeartbeats 4000000 in
theorem lc_14 {Γ : GG} {K : KK} {l : Launch} {N0 N1 N3 o mm ou : Nat} {adm : Nat → Nat} {b LL : Nat} {xs : Nat → Int32} {QP : Option Value → (Heap → Prop) → Prop} {mc ms b8 c8 b9 c9 : Nat} (hfl : l.stackTraces = false) (L : Lie N0 N1 N3 o mm ou adm) (hW : Wd (GE Γ N3) (ACo N0 N1 N3) K) (hX : ∀ (s : State) (H : Heap), Γ.2.2 s H → va_X b LL xs s H) (hbA : ¬ Af N0 b) (hLL : LL ≤ 256) {σ : MM} {T : Nat} (hT : T < 64) (hI : Inv σ T) {w i : Int} (hi : 0 ≤ i ∧ i + 4 ≤ (LL : Int)) (hb : b8 + 300 ≤ b9) (hc : c8 + 36400 ≤ c9) (kk : ∀ (σ' : MM) (w' : Int), Inv σ' (T + 1) → J Γ (Af N0) RP l RX0 "law" cL_law 7 (some .boolean) [] 20 mc ms QP X0 b8 c8 (PL Γ K N0 N1 N3 o mm ou adm σ' σ' w') 2280 [some (.ref b), some (.ref o), some (.ref mm), some (.ref ou), some (IV i), none, none] []) : J Γ (Af N0) RP l RX0 "law" cL_law 7 (some .boolean) [] 20 mc ms QP X0 b9 c9 (PL Γ K N0 N1 N3 o mm ou adm σ σ w) 1079 [some (.ref b), some (.ref o), some (.ref mm), some (.ref ou), some (IV i), none, none] [] := by
  refine jp_wk (fun H h => PL.at0 h) ?_
  obtain ⟨p0, hp0⟩ : ∃ p : Int, p = (xs (i + 1).toNat).toInt := ⟨_, rfl⟩
  have r0 : RR p0 := by rw [hp0]; exact rrI _
  obtain ⟨t, res, fin, ht, hz, hC, hM⟩ := op_stationOf (l := l) hfl L hW hT hI p0 r0
  have hS9 : ∀ (c : Nat), c ≤ 36400 → c8 + c ≤ c9 := fun c h => by omega
  refine j_aload_n (pc := 1079) dL_law_1079 rfl ?_
  refine j_aload_n (pc := 1080) dL_law_1080 rfl ?_
  refine j_iload (pc := 1081) dL_law_1081 rfl ?_
  refine j_iconst (pc := 1083) dL_law_1083 rfl ?_
  refine j_iadd (pc := 1084) dL_law_1084 ?_
  refine j_sld (pc := 1085) hX hbA (by omega) (by omega) dL_law_1085 ?_
  rw [← hp0]
  refine j_aload_n (pc := 1086) dL_law_1086 rfl ?_
  refine j_room (cl' := b8 + 3) (sl' := c8 + 14) (by omega) (hS9 14 (by decide)) ?_
  refine j_callSW (pc := 1087) (As := [.ref o, IV p0, .ref ou]) (rest := []) (hC w) (lw_SW q852 q853 q43 q854) md_yX0_stationOf (by decide) (by decide) rfl (Nat.le_of_ble_eq_true rfl) dL_law_1087 (fun v P hq => ?_)
  obtain ⟨w1, rfl, hw1, rfl⟩ := hq
  refine j_istore (pc := 1090) dL_law_1090 (by decide) (lo' := [some (.ref b), some (.ref o), some (.ref mm), some (.ref ou), some (IV i), some (IV t), none]) rfl ?_
  refine j_aload_n (pc := 1092) dL_law_1092 rfl ?_
  refine j_aload_n (pc := 1093) dL_law_1093 rfl ?_
  refine j_iload (pc := 1094) dL_law_1094 rfl ?_
  refine j_iconst (pc := 1096) dL_law_1096 rfl ?_
  refine j_iadd (pc := 1097) dL_law_1097 ?_
  refine j_sld (pc := 1098) hX hbA (by omega) (by omega) dL_law_1098 ?_
  rw [← hp0]
  refine j_room (cl' := b8 + 0) (sl' := c8 + 0) (by omega) (by omega) ?_
  refine j_callV (pc := 1099) (As := [IV p0]) (rest := []) (hM _ _) (lw_V q1654 q1655 q1656 q48 q1657) rfl md_yX2_stationOf PL.rcM (by decide) (by decide) rfl (Nat.le_of_ble_eq_true rfl) dL_law_1099 (fun v P hq => ?_)
  obtain ⟨r, σ', rfl, hE, rfl⟩ := hq
  refine j_istore (pc := 1102) dL_law_1102 (by decide) (lo' := [some (.ref b), some (.ref o), some (.ref mm), some (.ref ou), some (IV i), some (IV t), some (IV r)]) rfl ?_
  refine j_aload_n (pc := 1104) dL_law_1104 rfl ?_
  refine j_room (cl' := b8 + 0) (sl' := c8 + 0) (by omega) (by omega) ?_
  refine j_callV (pc := 1105) (As := []) (rest := []) (PL.ref L (m_thrown σ' hE.2.2.1.1.1)) (lw_V q1521 q1522 q1523 q48 q1524) rfl md_yX2_thrown PL.rcM (by decide) (by decide) rfl (Nat.le_of_ble_eq_true rfl) dL_law_1105 (fun v P hq => ?_)
  obtain ⟨r2', σ2, rfl, ⟨e1, e2⟩, rfl⟩ := hq
  rw [e2, e1, hE.2.1]
  refine j_iload (pc := 1108) dL_law_1108 rfl ?_
  refine j_icmp_eq (pc := 1110) (tgt := 1115) dL_law_1110 (by decide) (by omega) (by omega) (fun c => ?_) (fun c => absurd rfl c)
  refine j_iload (pc := 1115) dL_law_1115 rfl ?_
  refine j_if_ne (pc := 1117) (tgt := 1132) dL_law_1117 (by decide) (by omega) (fun c => ?_) (fun c => ?_)
  · refine j_goto (pc := 1132) (tgt := 2280) dL_law_1132 (by decide) ?_
    refine j_sub (lo' := [some (.ref b), some (.ref o), some (.ref mm), some (.ref ou), some (IV i), none, none]) ⟨Or.inr rfl, Or.inr rfl, Or.inr rfl, Or.inr rfl, Or.inr rfl, Or.inl rfl, Or.inl rfl, trivial⟩ ?_
    refine j_room (cl' := b8) (sl' := c8) (by omega) (by omega) ?_
    exact jp_wk (fun H h => PL.gs hE.2.2.2.1 hE.2.2.2.2 h) (kk σ' _ hE.2.2.1)
  · refine j_aload_n (pc := 1120) dL_law_1120 rfl ?_
    refine j_iconst (pc := 1121) dL_law_1121 rfl ?_
    refine jp_lald (pc := 1122) PL.cw dL_law_1122 ?_
    rw [hw1 c]
    refine j_iload (pc := 1123) dL_law_1123 rfl ?_
    rw [hE.1 c, IVw res]
    refine j_i2l (pc := 1125) dL_law_1125 (rrI _) ?_
    refine j_lcmpE (pc := 1126) dL_law_1126 ?_
    refine j_if_eq (pc := 1127) (tgt := 1132) dL_law_1127 (by decide) (by decide) (fun c9 => ?_) (fun c9 => absurd rfl c9)
    refine j_goto (pc := 1132) (tgt := 2280) dL_law_1132 (by decide) ?_
    refine j_sub (lo' := [some (.ref b), some (.ref o), some (.ref mm), some (.ref ou), some (IV i), none, none]) ⟨Or.inr rfl, Or.inr rfl, Or.inr rfl, Or.inr rfl, Or.inr rfl, Or.inl rfl, Or.inl rfl, trivial⟩ ?_
    refine j_room (cl' := b8) (sl' := c8) (by omega) (by omega) ?_
    exact jp_wk (fun H h => PL.gs hE.2.2.2.1 hE.2.2.2.2 h) (kk σ' _ hE.2.2.1)

theorem md_yX0_peopleOf : MD yX0_peopleOf 3 := by decide +kernel
theorem md_yX2_peopleOf : MD yX2_peopleOf 1 := by decide +kernel
set_option maxHeartbeats 4000000 in
theorem lc_15 {Γ : GG} {K : KK} {l : Launch} {N0 N1 N3 o mm ou : Nat} {adm : Nat → Nat} {b LL : Nat} {xs : Nat → Int32} {QP : Option Value → (Heap → Prop) → Prop} {mc ms b8 c8 b9 c9 : Nat} (hfl : l.stackTraces = false) (L : Lie N0 N1 N3 o mm ou adm) (hW : Wd (GE Γ N3) (ACo N0 N1 N3) K) (hX : ∀ (s : State) (H : Heap), Γ.2.2 s H → va_X b LL xs s H) (hbA : ¬ Af N0 b) (hLL : LL ≤ 256) {σ : MM} {T : Nat} (hT : T < 64) (hI : Inv σ T) {w i : Int} (hi : 0 ≤ i ∧ i + 4 ≤ (LL : Int)) (hb : b8 + 300 ≤ b9) (hc : c8 + 36400 ≤ c9) (kk : ∀ (σ' : MM) (w' : Int), Inv σ' (T + 1) → J Γ (Af N0) RP l RX0 "law" cL_law 7 (some .boolean) [] 20 mc ms QP X0 b8 c8 (PL Γ K N0 N1 N3 o mm ou adm σ' σ' w') 2280 [some (.ref b), some (.ref o), some (.ref mm), some (.ref ou), some (IV i), none, none] []) : J Γ (Af N0) RP l RX0 "law" cL_law 7 (some .boolean) [] 20 mc ms QP X0 b9 c9 (PL Γ K N0 N1 N3 o mm ou adm σ σ w) 1135 [some (.ref b), some (.ref o), some (.ref mm), some (.ref ou), some (IV i), none, none] [] := by
  refine jp_wk (fun H h => PL.at0 h) ?_
  obtain ⟨p0, hp0⟩ : ∃ p : Int, p = (xs (i + 1).toNat).toInt := ⟨_, rfl⟩
  have r0 : RR p0 := by rw [hp0]; exact rrI _
  obtain ⟨t, res, fin, ht, hz, hC, hM⟩ := op_peopleOf (l := l) hfl L hW hT hI p0 r0
  have hS9 : ∀ (c : Nat), c ≤ 36400 → c8 + c ≤ c9 := fun c h => by omega
  refine j_aload_n (pc := 1135) dL_law_1135 rfl ?_
  refine j_aload_n (pc := 1136) dL_law_1136 rfl ?_
  refine j_iload (pc := 1137) dL_law_1137 rfl ?_
  refine j_iconst (pc := 1139) dL_law_1139 rfl ?_
  refine j_iadd (pc := 1140) dL_law_1140 ?_
  refine j_sld (pc := 1141) hX hbA (by omega) (by omega) dL_law_1141 ?_
  rw [← hp0]
  refine j_aload_n (pc := 1142) dL_law_1142 rfl ?_
  refine j_room (cl' := b8 + 8) (sl' := c8 + 30) (by omega) (hS9 30 (by decide)) ?_
  refine j_callSW (pc := 1143) (As := [.ref o, IV p0, .ref ou]) (rest := []) (hC w) (lw_SW q859 q860 q43 q861) md_yX0_peopleOf (by decide) (by decide) rfl (Nat.le_of_ble_eq_true rfl) dL_law_1143 (fun v P hq => ?_)
  obtain ⟨w1, rfl, hw1, rfl⟩ := hq
  refine j_istore (pc := 1146) dL_law_1146 (by decide) (lo' := [some (.ref b), some (.ref o), some (.ref mm), some (.ref ou), some (IV i), some (IV t), none]) rfl ?_
  refine j_aload_n (pc := 1148) dL_law_1148 rfl ?_
  refine j_aload_n (pc := 1149) dL_law_1149 rfl ?_
  refine j_iload (pc := 1150) dL_law_1150 rfl ?_
  refine j_iconst (pc := 1152) dL_law_1152 rfl ?_
  refine j_iadd (pc := 1153) dL_law_1153 ?_
  refine j_sld (pc := 1154) hX hbA (by omega) (by omega) dL_law_1154 ?_
  rw [← hp0]
  refine j_room (cl' := b8 + 0) (sl' := c8 + 0) (by omega) (by omega) ?_
  refine j_callV (pc := 1155) (As := [IV p0]) (rest := []) (hM _ _) (lw_V q1658 q1659 q1660 q48 q1661) rfl md_yX2_peopleOf PL.rcM (by decide) (by decide) rfl (Nat.le_of_ble_eq_true rfl) dL_law_1155 (fun v P hq => ?_)
  obtain ⟨r, σ', rfl, hE, rfl⟩ := hq
  refine j_istore (pc := 1158) dL_law_1158 (by decide) (lo' := [some (.ref b), some (.ref o), some (.ref mm), some (.ref ou), some (IV i), some (IV t), some (IV r)]) rfl ?_
  refine j_aload_n (pc := 1160) dL_law_1160 rfl ?_
  refine j_room (cl' := b8 + 0) (sl' := c8 + 0) (by omega) (by omega) ?_
  refine j_callV (pc := 1161) (As := []) (rest := []) (PL.ref L (m_thrown σ' hE.2.2.1.1.1)) (lw_V q1521 q1522 q1523 q48 q1524) rfl md_yX2_thrown PL.rcM (by decide) (by decide) rfl (Nat.le_of_ble_eq_true rfl) dL_law_1161 (fun v P hq => ?_)
  obtain ⟨r2', σ2, rfl, ⟨e1, e2⟩, rfl⟩ := hq
  rw [e2, e1, hE.2.1]
  refine j_iload (pc := 1164) dL_law_1164 rfl ?_
  refine j_icmp_eq (pc := 1166) (tgt := 1171) dL_law_1166 (by decide) (by omega) (by omega) (fun c => ?_) (fun c => absurd rfl c)
  refine j_iload (pc := 1171) dL_law_1171 rfl ?_
  refine j_if_ne (pc := 1173) (tgt := 1188) dL_law_1173 (by decide) (by omega) (fun c => ?_) (fun c => ?_)
  · refine j_goto (pc := 1188) (tgt := 2280) dL_law_1188 (by decide) ?_
    refine j_sub (lo' := [some (.ref b), some (.ref o), some (.ref mm), some (.ref ou), some (IV i), none, none]) ⟨Or.inr rfl, Or.inr rfl, Or.inr rfl, Or.inr rfl, Or.inr rfl, Or.inl rfl, Or.inl rfl, trivial⟩ ?_
    refine j_room (cl' := b8) (sl' := c8) (by omega) (by omega) ?_
    exact jp_wk (fun H h => PL.gs hE.2.2.2.1 hE.2.2.2.2 h) (kk σ' _ hE.2.2.1)
  · refine j_aload_n (pc := 1176) dL_law_1176 rfl ?_
    refine j_iconst (pc := 1177) dL_law_1177 rfl ?_
    refine jp_lald (pc := 1178) PL.cw dL_law_1178 ?_
    rw [hw1 c]
    refine j_iload (pc := 1179) dL_law_1179 rfl ?_
    rw [hE.1 c, IVw res]
    refine j_i2l (pc := 1181) dL_law_1181 (rrI _) ?_
    refine j_lcmpE (pc := 1182) dL_law_1182 ?_
    refine j_if_eq (pc := 1183) (tgt := 1188) dL_law_1183 (by decide) (by decide) (fun c9 => ?_) (fun c9 => absurd rfl c9)
    refine j_goto (pc := 1188) (tgt := 2280) dL_law_1188 (by decide) ?_
    refine j_sub (lo' := [some (.ref b), some (.ref o), some (.ref mm), some (.ref ou), some (IV i), none, none]) ⟨Or.inr rfl, Or.inr rfl, Or.inr rfl, Or.inr rfl, Or.inr rfl, Or.inl rfl, Or.inl rfl, trivial⟩ ?_
    refine j_room (cl' := b8) (sl' := c8) (by omega) (by omega) ?_
    exact jp_wk (fun H h => PL.gs hE.2.2.2.1 hE.2.2.2.2 h) (kk σ' _ hE.2.2.1)

theorem md_yX0_early : MD yX0_early 4 := by decide +kernel
theorem md_yX2_early : MD yX2_early 2 := by decide +kernel
set_option maxHeartbeats 4000000 in
theorem lc_16 {Γ : GG} {K : KK} {l : Launch} {N0 N1 N3 o mm ou : Nat} {adm : Nat → Nat} {b LL : Nat} {xs : Nat → Int32} {QP : Option Value → (Heap → Prop) → Prop} {mc ms b8 c8 b9 c9 : Nat} (hfl : l.stackTraces = false) (L : Lie N0 N1 N3 o mm ou adm) (hW : Wd (GE Γ N3) (ACo N0 N1 N3) K) (hX : ∀ (s : State) (H : Heap), Γ.2.2 s H → va_X b LL xs s H) (hbA : ¬ Af N0 b) (hLL : LL ≤ 256) {σ : MM} {T : Nat} (hT : T < 64) (hI : Inv σ T) {w i : Int} (hi : 0 ≤ i ∧ i + 4 ≤ (LL : Int)) (hb : b8 + 300 ≤ b9) (hc : c8 + 36400 ≤ c9) (kk : ∀ (σ' : MM) (w' : Int), Inv σ' (T + 1) → J Γ (Af N0) RP l RX0 "law" cL_law 7 (some .boolean) [] 20 mc ms QP X0 b8 c8 (PL Γ K N0 N1 N3 o mm ou adm σ' σ' w') 2280 [some (.ref b), some (.ref o), some (.ref mm), some (.ref ou), some (IV i), none, none] []) : J Γ (Af N0) RP l RX0 "law" cL_law 7 (some .boolean) [] 20 mc ms QP X0 b9 c9 (PL Γ K N0 N1 N3 o mm ou adm σ σ w) 1191 [some (.ref b), some (.ref o), some (.ref mm), some (.ref ou), some (IV i), none, none] [] := by
  refine jp_wk (fun H h => PL.at0 h) ?_
  obtain ⟨p0, hp0⟩ : ∃ p : Int, p = (xs (i + 1).toNat).toInt := ⟨_, rfl⟩
  have r0 : RR p0 := by rw [hp0]; exact rrI _
  obtain ⟨p1, hp1⟩ : ∃ p : Int, p = (xs (i + 2).toNat).toInt := ⟨_, rfl⟩
  have r1 : RR p1 := by rw [hp1]; exact rrI _
  obtain ⟨t, res, fin, ht, hz, hC, hM⟩ := op_early (l := l) hfl L hW hT hI p0 p1 r0 r1
  have hS9 : ∀ (c : Nat), c ≤ 36400 → c8 + c ≤ c9 := fun c h => by omega
  refine j_aload_n (pc := 1191) dL_law_1191 rfl ?_
  refine j_aload_n (pc := 1192) dL_law_1192 rfl ?_
  refine j_iload (pc := 1193) dL_law_1193 rfl ?_
  refine j_iconst (pc := 1195) dL_law_1195 rfl ?_
  refine j_iadd (pc := 1196) dL_law_1196 ?_
  refine j_sld (pc := 1197) hX hbA (by omega) (by omega) dL_law_1197 ?_
  rw [← hp0]
  refine j_aload_n (pc := 1198) dL_law_1198 rfl ?_
  refine j_iload (pc := 1199) dL_law_1199 rfl ?_
  refine j_iconst (pc := 1201) dL_law_1201 rfl ?_
  refine j_iadd (pc := 1202) dL_law_1202 ?_
  refine j_sld (pc := 1203) hX hbA (by omega) (by omega) dL_law_1203 ?_
  rw [← hp1]
  refine j_aload_n (pc := 1204) dL_law_1204 rfl ?_
  refine j_room (cl' := b8 + 12) (sl' := c8 + 1300) (by omega) (hS9 1300 (by decide)) ?_
  refine j_callSW (pc := 1205) (As := [.ref o, IV p0, IV p1, .ref ou]) (rest := []) (hC w) (lw_SW q870 q871 q43 q872) md_yX0_early (by decide) (by decide) rfl (Nat.le_of_ble_eq_true rfl) dL_law_1205 (fun v P hq => ?_)
  obtain ⟨w1, rfl, hw1, rfl⟩ := hq
  refine j_istore (pc := 1208) dL_law_1208 (by decide) (lo' := [some (.ref b), some (.ref o), some (.ref mm), some (.ref ou), some (IV i), some (IV t), none]) rfl ?_
  refine j_aload_n (pc := 1210) dL_law_1210 rfl ?_
  refine j_aload_n (pc := 1211) dL_law_1211 rfl ?_
  refine j_iload (pc := 1212) dL_law_1212 rfl ?_
  refine j_iconst (pc := 1214) dL_law_1214 rfl ?_
  refine j_iadd (pc := 1215) dL_law_1215 ?_
  refine j_sld (pc := 1216) hX hbA (by omega) (by omega) dL_law_1216 ?_
  rw [← hp0]
  refine j_aload_n (pc := 1217) dL_law_1217 rfl ?_
  refine j_iload (pc := 1218) dL_law_1218 rfl ?_
  refine j_iconst (pc := 1220) dL_law_1220 rfl ?_
  refine j_iadd (pc := 1221) dL_law_1221 ?_
  refine j_sld (pc := 1222) hX hbA (by omega) (by omega) dL_law_1222 ?_
  rw [← hp1]
  refine j_room (cl' := b8 + 0) (sl' := c8 + 0) (by omega) (by omega) ?_
  refine j_callV (pc := 1223) (As := [IV p0, IV p1]) (rest := []) (hM _ _) (lw_V q1662 q1663 q1664 q48 q1665) rfl md_yX2_early PL.rcM (by decide) (by decide) rfl (Nat.le_of_ble_eq_true rfl) dL_law_1223 (fun v P hq => ?_)
  obtain ⟨r, σ', rfl, hE, rfl⟩ := hq
  refine j_istore (pc := 1226) dL_law_1226 (by decide) (lo' := [some (.ref b), some (.ref o), some (.ref mm), some (.ref ou), some (IV i), some (IV t), some (IV r)]) rfl ?_
  refine j_aload_n (pc := 1228) dL_law_1228 rfl ?_
  refine j_room (cl' := b8 + 0) (sl' := c8 + 0) (by omega) (by omega) ?_
  refine j_callV (pc := 1229) (As := []) (rest := []) (PL.ref L (m_thrown σ' hE.2.2.1.1.1)) (lw_V q1521 q1522 q1523 q48 q1524) rfl md_yX2_thrown PL.rcM (by decide) (by decide) rfl (Nat.le_of_ble_eq_true rfl) dL_law_1229 (fun v P hq => ?_)
  obtain ⟨r2', σ2, rfl, ⟨e1, e2⟩, rfl⟩ := hq
  rw [e2, e1, hE.2.1]
  refine j_iload (pc := 1232) dL_law_1232 rfl ?_
  refine j_icmp_eq (pc := 1234) (tgt := 1239) dL_law_1234 (by decide) (by omega) (by omega) (fun c => ?_) (fun c => absurd rfl c)
  refine j_iload (pc := 1239) dL_law_1239 rfl ?_
  refine j_if_ne (pc := 1241) (tgt := 1256) dL_law_1241 (by decide) (by omega) (fun c => ?_) (fun c => ?_)
  · refine j_goto (pc := 1256) (tgt := 2280) dL_law_1256 (by decide) ?_
    refine j_sub (lo' := [some (.ref b), some (.ref o), some (.ref mm), some (.ref ou), some (IV i), none, none]) ⟨Or.inr rfl, Or.inr rfl, Or.inr rfl, Or.inr rfl, Or.inr rfl, Or.inl rfl, Or.inl rfl, trivial⟩ ?_
    refine j_room (cl' := b8) (sl' := c8) (by omega) (by omega) ?_
    exact jp_wk (fun H h => PL.gs hE.2.2.2.1 hE.2.2.2.2 h) (kk σ' _ hE.2.2.1)
  · refine j_aload_n (pc := 1244) dL_law_1244 rfl ?_
    refine j_iconst (pc := 1245) dL_law_1245 rfl ?_
    refine jp_lald (pc := 1246) PL.cw dL_law_1246 ?_
    rw [hw1 c]
    refine j_iload (pc := 1247) dL_law_1247 rfl ?_
    rw [hE.1 c, IVw res]
    refine j_i2l (pc := 1249) dL_law_1249 (rrI _) ?_
    refine j_lcmpE (pc := 1250) dL_law_1250 ?_
    refine j_if_eq (pc := 1251) (tgt := 1256) dL_law_1251 (by decide) (by decide) (fun c9 => ?_) (fun c9 => absurd rfl c9)
    refine j_goto (pc := 1256) (tgt := 2280) dL_law_1256 (by decide) ?_
    refine j_sub (lo' := [some (.ref b), some (.ref o), some (.ref mm), some (.ref ou), some (IV i), none, none]) ⟨Or.inr rfl, Or.inr rfl, Or.inr rfl, Or.inr rfl, Or.inr rfl, Or.inl rfl, Or.inl rfl, trivial⟩ ?_
    refine j_room (cl' := b8) (sl' := c8) (by omega) (by omega) ?_
    exact jp_wk (fun H h => PL.gs hE.2.2.2.1 hE.2.2.2.2 h) (kk σ' _ hE.2.2.1)

theorem md_yX0_vote : MD yX0_vote 5 := by decide +kernel
theorem md_yX2_vote : MD yX2_vote 3 := by decide +kernel
set_option maxHeartbeats 4000000 in
theorem lc_17 {Γ : GG} {K : KK} {l : Launch} {N0 N1 N3 o mm ou : Nat} {adm : Nat → Nat} {b LL : Nat} {xs : Nat → Int32} {QP : Option Value → (Heap → Prop) → Prop} {mc ms b8 c8 b9 c9 : Nat} (hfl : l.stackTraces = false) (L : Lie N0 N1 N3 o mm ou adm) (hW : Wd (GE Γ N3) (ACo N0 N1 N3) K) (hX : ∀ (s : State) (H : Heap), Γ.2.2 s H → va_X b LL xs s H) (hbA : ¬ Af N0 b) (hLL : LL ≤ 256) {σ : MM} {T : Nat} (hT : T < 64) (hI : Inv σ T) {w i : Int} (hi : 0 ≤ i ∧ i + 4 ≤ (LL : Int)) (hb : b8 + 300 ≤ b9) (hc : c8 + 36400 ≤ c9) (kk : ∀ (σ' : MM) (w' : Int), Inv σ' (T + 1) → J Γ (Af N0) RP l RX0 "law" cL_law 7 (some .boolean) [] 20 mc ms QP X0 b8 c8 (PL Γ K N0 N1 N3 o mm ou adm σ' σ' w') 2280 [some (.ref b), some (.ref o), some (.ref mm), some (.ref ou), some (IV i), none, none] []) : J Γ (Af N0) RP l RX0 "law" cL_law 7 (some .boolean) [] 20 mc ms QP X0 b9 c9 (PL Γ K N0 N1 N3 o mm ou adm σ σ w) 1259 [some (.ref b), some (.ref o), some (.ref mm), some (.ref ou), some (IV i), none, none] [] := by
  refine jp_wk (fun H h => PL.at0 h) ?_
  obtain ⟨p0, hp0⟩ : ∃ p : Int, p = (xs (i + 1).toNat).toInt := ⟨_, rfl⟩
  have r0 : RR p0 := by rw [hp0]; exact rrI _
  obtain ⟨p1, hp1⟩ : ∃ p : Int, p = (xs (i + 2).toNat).toInt := ⟨_, rfl⟩
  have r1 : RR p1 := by rw [hp1]; exact rrI _
  obtain ⟨p2, hp2⟩ : ∃ p : Int, p = (xs (i + 3).toNat).toInt := ⟨_, rfl⟩
  have r2 : RR p2 := by rw [hp2]; exact rrI _
  obtain ⟨t, res, fin, ht, hz, hC, hM⟩ := op_vote (l := l) hfl L hW hT hI p0 p1 p2 r0 r1 r2
  have hS9 : ∀ (c : Nat), c ≤ 36400 → c8 + c ≤ c9 := fun c h => by omega
  refine j_aload_n (pc := 1259) dL_law_1259 rfl ?_
  refine j_aload_n (pc := 1260) dL_law_1260 rfl ?_
  refine j_iload (pc := 1261) dL_law_1261 rfl ?_
  refine j_iconst (pc := 1263) dL_law_1263 rfl ?_
  refine j_iadd (pc := 1264) dL_law_1264 ?_
  refine j_sld (pc := 1265) hX hbA (by omega) (by omega) dL_law_1265 ?_
  rw [← hp0]
  refine j_aload_n (pc := 1266) dL_law_1266 rfl ?_
  refine j_iload (pc := 1267) dL_law_1267 rfl ?_
  refine j_iconst (pc := 1269) dL_law_1269 rfl ?_
  refine j_iadd (pc := 1270) dL_law_1270 ?_
  refine j_sld (pc := 1271) hX hbA (by omega) (by omega) dL_law_1271 ?_
  rw [← hp1]
  refine j_aload_n (pc := 1272) dL_law_1272 rfl ?_
  refine j_iload (pc := 1273) dL_law_1273 rfl ?_
  refine j_iconst (pc := 1275) dL_law_1275 rfl ?_
  refine j_iadd (pc := 1276) dL_law_1276 ?_
  refine j_sld (pc := 1277) hX hbA (by omega) (by omega) dL_law_1277 ?_
  rw [← hp2]
  refine j_aload_n (pc := 1278) dL_law_1278 rfl ?_
  refine j_room (cl' := b8 + 14) (sl' := c8 + 1300) (by omega) (hS9 1300 (by decide)) ?_
  refine j_callSW (pc := 1279) (As := [.ref o, IV p0, IV p1, IV p2, .ref ou]) (rest := []) (hC w) (lw_SW q902 q903 q43 q904) md_yX0_vote (by decide) (by decide) rfl (Nat.le_of_ble_eq_true rfl) dL_law_1279 (fun v P hq => ?_)
  obtain ⟨w1, rfl, hw1, rfl⟩ := hq
  refine j_istore (pc := 1282) dL_law_1282 (by decide) (lo' := [some (.ref b), some (.ref o), some (.ref mm), some (.ref ou), some (IV i), some (IV t), none]) rfl ?_
  refine j_aload_n (pc := 1284) dL_law_1284 rfl ?_
  refine j_aload_n (pc := 1285) dL_law_1285 rfl ?_
  refine j_iload (pc := 1286) dL_law_1286 rfl ?_
  refine j_iconst (pc := 1288) dL_law_1288 rfl ?_
  refine j_iadd (pc := 1289) dL_law_1289 ?_
  refine j_sld (pc := 1290) hX hbA (by omega) (by omega) dL_law_1290 ?_
  rw [← hp0]
  refine j_aload_n (pc := 1291) dL_law_1291 rfl ?_
  refine j_iload (pc := 1292) dL_law_1292 rfl ?_
  refine j_iconst (pc := 1294) dL_law_1294 rfl ?_
  refine j_iadd (pc := 1295) dL_law_1295 ?_
  refine j_sld (pc := 1296) hX hbA (by omega) (by omega) dL_law_1296 ?_
  rw [← hp1]
  refine j_aload_n (pc := 1297) dL_law_1297 rfl ?_
  refine j_iload (pc := 1298) dL_law_1298 rfl ?_
  refine j_iconst (pc := 1300) dL_law_1300 rfl ?_
  refine j_iadd (pc := 1301) dL_law_1301 ?_
  refine j_sld (pc := 1302) hX hbA (by omega) (by omega) dL_law_1302 ?_
  rw [← hp2]
  refine j_room (cl' := b8 + 0) (sl' := c8 + 0) (by omega) (by omega) ?_
  refine j_callV (pc := 1303) (As := [IV p0, IV p1, IV p2]) (rest := []) (hM _ _) (lw_V q1670 q1671 q1672 q48 q1673) rfl md_yX2_vote PL.rcM (by decide) (by decide) rfl (Nat.le_of_ble_eq_true rfl) dL_law_1303 (fun v P hq => ?_)
  obtain ⟨r, σ', rfl, hE, rfl⟩ := hq
  refine j_istore (pc := 1306) dL_law_1306 (by decide) (lo' := [some (.ref b), some (.ref o), some (.ref mm), some (.ref ou), some (IV i), some (IV t), some (IV r)]) rfl ?_
  refine j_aload_n (pc := 1308) dL_law_1308 rfl ?_
  refine j_room (cl' := b8 + 0) (sl' := c8 + 0) (by omega) (by omega) ?_
  refine j_callV (pc := 1309) (As := []) (rest := []) (PL.ref L (m_thrown σ' hE.2.2.1.1.1)) (lw_V q1521 q1522 q1523 q48 q1524) rfl md_yX2_thrown PL.rcM (by decide) (by decide) rfl (Nat.le_of_ble_eq_true rfl) dL_law_1309 (fun v P hq => ?_)
  obtain ⟨r2', σ2, rfl, ⟨e1, e2⟩, rfl⟩ := hq
  rw [e2, e1, hE.2.1]
  refine j_iload (pc := 1312) dL_law_1312 rfl ?_
  refine j_icmp_eq (pc := 1314) (tgt := 1319) dL_law_1314 (by decide) (by omega) (by omega) (fun c => ?_) (fun c => absurd rfl c)
  refine j_iload (pc := 1319) dL_law_1319 rfl ?_
  refine j_if_ne (pc := 1321) (tgt := 1336) dL_law_1321 (by decide) (by omega) (fun c => ?_) (fun c => ?_)
  · refine j_goto (pc := 1336) (tgt := 2280) dL_law_1336 (by decide) ?_
    refine j_sub (lo' := [some (.ref b), some (.ref o), some (.ref mm), some (.ref ou), some (IV i), none, none]) ⟨Or.inr rfl, Or.inr rfl, Or.inr rfl, Or.inr rfl, Or.inr rfl, Or.inl rfl, Or.inl rfl, trivial⟩ ?_
    refine j_room (cl' := b8) (sl' := c8) (by omega) (by omega) ?_
    exact jp_wk (fun H h => PL.gs hE.2.2.2.1 hE.2.2.2.2 h) (kk σ' _ hE.2.2.1)
  · refine j_aload_n (pc := 1324) dL_law_1324 rfl ?_
    refine j_iconst (pc := 1325) dL_law_1325 rfl ?_
    refine jp_lald (pc := 1326) PL.cw dL_law_1326 ?_
    rw [hw1 c]
    refine j_iload (pc := 1327) dL_law_1327 rfl ?_
    rw [hE.1 c, IVw res]
    refine j_i2l (pc := 1329) dL_law_1329 (rrI _) ?_
    refine j_lcmpE (pc := 1330) dL_law_1330 ?_
    refine j_if_eq (pc := 1331) (tgt := 1336) dL_law_1331 (by decide) (by decide) (fun c9 => ?_) (fun c9 => absurd rfl c9)
    refine j_goto (pc := 1336) (tgt := 2280) dL_law_1336 (by decide) ?_
    refine j_sub (lo' := [some (.ref b), some (.ref o), some (.ref mm), some (.ref ou), some (IV i), none, none]) ⟨Or.inr rfl, Or.inr rfl, Or.inr rfl, Or.inr rfl, Or.inr rfl, Or.inl rfl, Or.inl rfl, trivial⟩ ?_
    refine j_room (cl' := b8) (sl' := c8) (by omega) (by omega) ?_
    exact jp_wk (fun H h => PL.gs hE.2.2.2.1 hE.2.2.2.2 h) (kk σ' _ hE.2.2.1)

theorem md_yX0_open : MD yX0_open 3 := by decide +kernel
theorem md_yX2_open : MD yX2_open 1 := by decide +kernel
set_option maxHeartbeats 4000000 in
theorem lc_18 {Γ : GG} {K : KK} {l : Launch} {N0 N1 N3 o mm ou : Nat} {adm : Nat → Nat} {b LL : Nat} {xs : Nat → Int32} {QP : Option Value → (Heap → Prop) → Prop} {mc ms b8 c8 b9 c9 : Nat} (hfl : l.stackTraces = false) (L : Lie N0 N1 N3 o mm ou adm) (hW : Wd (GE Γ N3) (ACo N0 N1 N3) K) (hX : ∀ (s : State) (H : Heap), Γ.2.2 s H → va_X b LL xs s H) (hbA : ¬ Af N0 b) (hLL : LL ≤ 256) {σ : MM} {T : Nat} (hT : T < 64) (hI : Inv σ T) {w i : Int} (hi : 0 ≤ i ∧ i + 4 ≤ (LL : Int)) (hb : b8 + 300 ≤ b9) (hc : c8 + 36400 ≤ c9) (kk : ∀ (σ' : MM) (w' : Int), Inv σ' (T + 1) → J Γ (Af N0) RP l RX0 "law" cL_law 7 (some .boolean) [] 20 mc ms QP X0 b8 c8 (PL Γ K N0 N1 N3 o mm ou adm σ' σ' w') 2280 [some (.ref b), some (.ref o), some (.ref mm), some (.ref ou), some (IV i), none, none] []) : J Γ (Af N0) RP l RX0 "law" cL_law 7 (some .boolean) [] 20 mc ms QP X0 b9 c9 (PL Γ K N0 N1 N3 o mm ou adm σ σ w) 1339 [some (.ref b), some (.ref o), some (.ref mm), some (.ref ou), some (IV i), none, none] [] := by
  refine jp_wk (fun H h => PL.at0 h) ?_
  obtain ⟨p0, hp0⟩ : ∃ p : Int, p = (xs (i + 1).toNat).toInt := ⟨_, rfl⟩
  have r0 : RR p0 := by rw [hp0]; exact rrI _
  obtain ⟨t, res, fin, ht, hz, hC, hM⟩ := op_open (l := l) hfl L hW hT hI p0 r0
  have hS9 : ∀ (c : Nat), c ≤ 36400 → c8 + c ≤ c9 := fun c h => by omega
  refine j_aload_n (pc := 1339) dL_law_1339 rfl ?_
  refine j_aload_n (pc := 1340) dL_law_1340 rfl ?_
  refine j_iload (pc := 1341) dL_law_1341 rfl ?_
  refine j_iconst (pc := 1343) dL_law_1343 rfl ?_
  refine j_iadd (pc := 1344) dL_law_1344 ?_
  refine j_sld (pc := 1345) hX hbA (by omega) (by omega) dL_law_1345 ?_
  rw [← hp0]
  refine j_aload_n (pc := 1346) dL_law_1346 rfl ?_
  refine j_room (cl' := b8 + 9) (sl' := c8 + 650) (by omega) (hS9 650 (by decide)) ?_
  refine j_callSW (pc := 1347) (As := [.ref o, IV p0, .ref ou]) (rest := []) (hC w) (lw_SW q911 q912 q43 q913) md_yX0_open (by decide) (by decide) rfl (Nat.le_of_ble_eq_true rfl) dL_law_1347 (fun v P hq => ?_)
  obtain ⟨w1, rfl, hw1, rfl⟩ := hq
  refine j_istore (pc := 1350) dL_law_1350 (by decide) (lo' := [some (.ref b), some (.ref o), some (.ref mm), some (.ref ou), some (IV i), some (IV t), none]) rfl ?_
  refine j_aload_n (pc := 1352) dL_law_1352 rfl ?_
  refine j_aload_n (pc := 1353) dL_law_1353 rfl ?_
  refine j_iload (pc := 1354) dL_law_1354 rfl ?_
  refine j_iconst (pc := 1356) dL_law_1356 rfl ?_
  refine j_iadd (pc := 1357) dL_law_1357 ?_
  refine j_sld (pc := 1358) hX hbA (by omega) (by omega) dL_law_1358 ?_
  rw [← hp0]
  refine j_room (cl' := b8 + 0) (sl' := c8 + 0) (by omega) (by omega) ?_
  refine j_callV (pc := 1359) (As := [IV p0]) (rest := []) (hM _ _) (lw_V q1674 q1675 q1676 q48 q1677) rfl md_yX2_open PL.rcM (by decide) (by decide) rfl (Nat.le_of_ble_eq_true rfl) dL_law_1359 (fun v P hq => ?_)
  obtain ⟨r, σ', rfl, hE, rfl⟩ := hq
  refine j_istore (pc := 1362) dL_law_1362 (by decide) (lo' := [some (.ref b), some (.ref o), some (.ref mm), some (.ref ou), some (IV i), some (IV t), some (IV r)]) rfl ?_
  refine j_aload_n (pc := 1364) dL_law_1364 rfl ?_
  refine j_room (cl' := b8 + 0) (sl' := c8 + 0) (by omega) (by omega) ?_
  refine j_callV (pc := 1365) (As := []) (rest := []) (PL.ref L (m_thrown σ' hE.2.2.1.1.1)) (lw_V q1521 q1522 q1523 q48 q1524) rfl md_yX2_thrown PL.rcM (by decide) (by decide) rfl (Nat.le_of_ble_eq_true rfl) dL_law_1365 (fun v P hq => ?_)
  obtain ⟨r2', σ2, rfl, ⟨e1, e2⟩, rfl⟩ := hq
  rw [e2, e1, hE.2.1]
  refine j_iload (pc := 1368) dL_law_1368 rfl ?_
  refine j_icmp_eq (pc := 1370) (tgt := 1375) dL_law_1370 (by decide) (by omega) (by omega) (fun c => ?_) (fun c => absurd rfl c)
  refine j_iload (pc := 1375) dL_law_1375 rfl ?_
  refine j_if_ne (pc := 1377) (tgt := 1392) dL_law_1377 (by decide) (by omega) (fun c => ?_) (fun c => ?_)
  · refine j_goto (pc := 1392) (tgt := 2280) dL_law_1392 (by decide) ?_
    refine j_sub (lo' := [some (.ref b), some (.ref o), some (.ref mm), some (.ref ou), some (IV i), none, none]) ⟨Or.inr rfl, Or.inr rfl, Or.inr rfl, Or.inr rfl, Or.inr rfl, Or.inl rfl, Or.inl rfl, trivial⟩ ?_
    refine j_room (cl' := b8) (sl' := c8) (by omega) (by omega) ?_
    exact jp_wk (fun H h => PL.gs hE.2.2.2.1 hE.2.2.2.2 h) (kk σ' _ hE.2.2.1)
  · refine j_aload_n (pc := 1380) dL_law_1380 rfl ?_
    refine j_iconst (pc := 1381) dL_law_1381 rfl ?_
    refine jp_lald (pc := 1382) PL.cw dL_law_1382 ?_
    rw [hw1 c]
    refine j_iload (pc := 1383) dL_law_1383 rfl ?_
    rw [hE.1 c, IVw res]
    refine j_i2l (pc := 1385) dL_law_1385 (rrI _) ?_
    refine j_lcmpE (pc := 1386) dL_law_1386 ?_
    refine j_if_eq (pc := 1387) (tgt := 1392) dL_law_1387 (by decide) (by decide) (fun c9 => ?_) (fun c9 => absurd rfl c9)
    refine j_goto (pc := 1392) (tgt := 2280) dL_law_1392 (by decide) ?_
    refine j_sub (lo' := [some (.ref b), some (.ref o), some (.ref mm), some (.ref ou), some (IV i), none, none]) ⟨Or.inr rfl, Or.inr rfl, Or.inr rfl, Or.inr rfl, Or.inr rfl, Or.inl rfl, Or.inl rfl, trivial⟩ ?_
    refine j_room (cl' := b8) (sl' := c8) (by omega) (by omega) ?_
    exact jp_wk (fun H h => PL.gs hE.2.2.2.1 hE.2.2.2.2 h) (kk σ' _ hE.2.2.1)

theorem md_yX2_envelopes : MD yX2_envelopes 0 := by decide +kernel
set_option maxHeartbeats 4000000 in
theorem lc_19 {Γ : GG} {K : KK} {l : Launch} {N0 N1 N3 o mm ou : Nat} {adm : Nat → Nat} {b LL : Nat} {xs : Nat → Int32} {QP : Option Value → (Heap → Prop) → Prop} {mc ms b8 c8 b9 c9 : Nat} (hfl : l.stackTraces = false) (L : Lie N0 N1 N3 o mm ou adm) (hW : Wd (GE Γ N3) (ACo N0 N1 N3) K) (hX : ∀ (s : State) (H : Heap), Γ.2.2 s H → va_X b LL xs s H) (hbA : ¬ Af N0 b) (hLL : LL ≤ 256) {σ : MM} {T : Nat} (hT : T < 64) (hI : Inv σ T) {w i : Int} (hi : 0 ≤ i ∧ i + 4 ≤ (LL : Int)) (hb : b8 + 300 ≤ b9) (hc : c8 + 36400 ≤ c9) (kk : ∀ (σ' : MM) (w' : Int), Inv σ' (T + 1) → J Γ (Af N0) RP l RX0 "law" cL_law 7 (some .boolean) [] 20 mc ms QP X0 b8 c8 (PL Γ K N0 N1 N3 o mm ou adm σ' σ' w') 2280 [some (.ref b), some (.ref o), some (.ref mm), some (.ref ou), some (IV i), none, none] []) : J Γ (Af N0) RP l RX0 "law" cL_law 7 (some .boolean) [] 20 mc ms QP X0 b9 c9 (PL Γ K N0 N1 N3 o mm ou adm σ σ w) 1395 [some (.ref b), some (.ref o), some (.ref mm), some (.ref ou), some (IV i), none, none] [] := by
  refine jp_wk (fun H h => PL.at0 h) ?_
  obtain ⟨res, hC, hM⟩ := od_envelopes (l := l) L hW hI
  refine j_aload_n (pc := 1395) dL_law_1395 rfl ?_
  refine j_room (cl' := b8 + 0) (sl' := c8 + 0) (by omega) (by omega) ?_
  refine j_callV (pc := 1396) (As := []) (rest := []) (hC w) (lw_V q150 q151 q152 q44 q153) rfl md_yX1_envelopes PL.rcC (by decide) (by decide) rfl (Nat.le_of_ble_eq_true rfl) dL_law_1396 (fun v P hq => ?_)
  obtain ⟨rfl, rfl⟩ := hq
  refine j_aload_n (pc := 1399) dL_law_1399 rfl ?_
  refine j_room (cl' := b8 + 0) (sl' := c8 + 0) (by omega) (by omega) ?_
  refine j_callV (pc := 1400) (As := []) (rest := [IV res]) (hM w) (lw_V q1678 q1679 q1680 q48 q1681) rfl md_yX2_envelopes PL.rcM (by decide) (by decide) rfl (Nat.le_of_ble_eq_true rfl) dL_law_1400 (fun v P hq => ?_)
  obtain ⟨r, σ', rfl, hE, rfl⟩ := hq
  rw [hE.1 rfl, IVw res]
  refine j_icmp_eq (pc := 1403) (tgt := 2280) dL_law_1403 (by decide) (rrI _) (rrI _) (fun c => ?_) (fun c => absurd rfl c)
  refine j_sub (lo' := [some (.ref b), some (.ref o), some (.ref mm), some (.ref ou), some (IV i), none, none]) ⟨Or.inr rfl, Or.inr rfl, Or.inr rfl, Or.inr rfl, Or.inr rfl, Or.inr rfl, Or.inr rfl, trivial⟩ ?_
  refine j_room (cl' := b8) (sl' := c8) (by omega) (by omega) ?_
  exact jp_wk (fun H h => PL.gs hE.2.2.2.1 hE.2.2.2.2 h) (kk σ' _ hE.2.2.1)

theorem md_yX0_stateOf : MD yX0_stateOf 3 := by decide +kernel
theorem md_yX2_stateOf : MD yX2_stateOf 1 := by decide +kernel
set_option maxHeartbeats 4000000 in
theorem lc_20 {Γ : GG} {K : KK} {l : Launch} {N0 N1 N3 o mm ou : Nat} {adm : Nat → Nat} {b LL : Nat} {xs : Nat → Int32} {QP : Option Value → (Heap → Prop) → Prop} {mc ms b8 c8 b9 c9 : Nat} (hfl : l.stackTraces = false) (L : Lie N0 N1 N3 o mm ou adm) (hW : Wd (GE Γ N3) (ACo N0 N1 N3) K) (hX : ∀ (s : State) (H : Heap), Γ.2.2 s H → va_X b LL xs s H) (hbA : ¬ Af N0 b) (hLL : LL ≤ 256) {σ : MM} {T : Nat} (hT : T < 64) (hI : Inv σ T) {w i : Int} (hi : 0 ≤ i ∧ i + 4 ≤ (LL : Int)) (hb : b8 + 300 ≤ b9) (hc : c8 + 36400 ≤ c9) (kk : ∀ (σ' : MM) (w' : Int), Inv σ' (T + 1) → J Γ (Af N0) RP l RX0 "law" cL_law 7 (some .boolean) [] 20 mc ms QP X0 b8 c8 (PL Γ K N0 N1 N3 o mm ou adm σ' σ' w') 2280 [some (.ref b), some (.ref o), some (.ref mm), some (.ref ou), some (IV i), none, none] []) : J Γ (Af N0) RP l RX0 "law" cL_law 7 (some .boolean) [] 20 mc ms QP X0 b9 c9 (PL Γ K N0 N1 N3 o mm ou adm σ σ w) 1408 [some (.ref b), some (.ref o), some (.ref mm), some (.ref ou), some (IV i), none, none] [] := by
  refine jp_wk (fun H h => PL.at0 h) ?_
  obtain ⟨p0, hp0⟩ : ∃ p : Int, p = (xs (i + 1).toNat).toInt := ⟨_, rfl⟩
  have r0 : RR p0 := by rw [hp0]; exact rrI _
  obtain ⟨t, res, fin, ht, hz, hC, hM⟩ := op_stateOf (l := l) hfl L hW hT hI p0 r0
  have hS9 : ∀ (c : Nat), c ≤ 36400 → c8 + c ≤ c9 := fun c h => by omega
  refine j_aload_n (pc := 1408) dL_law_1408 rfl ?_
  refine j_aload_n (pc := 1409) dL_law_1409 rfl ?_
  refine j_iload (pc := 1410) dL_law_1410 rfl ?_
  refine j_iconst (pc := 1412) dL_law_1412 rfl ?_
  refine j_iadd (pc := 1413) dL_law_1413 ?_
  refine j_sld (pc := 1414) hX hbA (by omega) (by omega) dL_law_1414 ?_
  rw [← hp0]
  refine j_aload_n (pc := 1415) dL_law_1415 rfl ?_
  refine j_room (cl' := b8 + 3) (sl' := c8 + 14) (by omega) (hS9 14 (by decide)) ?_
  refine j_callSW (pc := 1416) (As := [.ref o, IV p0, .ref ou]) (rest := []) (hC w) (lw_SW q967 q968 q43 q969) md_yX0_stateOf (by decide) (by decide) rfl (Nat.le_of_ble_eq_true rfl) dL_law_1416 (fun v P hq => ?_)
  obtain ⟨w1, rfl, hw1, rfl⟩ := hq
  refine j_istore (pc := 1419) dL_law_1419 (by decide) (lo' := [some (.ref b), some (.ref o), some (.ref mm), some (.ref ou), some (IV i), some (IV t), none]) rfl ?_
  refine j_aload_n (pc := 1421) dL_law_1421 rfl ?_
  refine j_aload_n (pc := 1422) dL_law_1422 rfl ?_
  refine j_iload (pc := 1423) dL_law_1423 rfl ?_
  refine j_iconst (pc := 1425) dL_law_1425 rfl ?_
  refine j_iadd (pc := 1426) dL_law_1426 ?_
  refine j_sld (pc := 1427) hX hbA (by omega) (by omega) dL_law_1427 ?_
  rw [← hp0]
  refine j_room (cl' := b8 + 0) (sl' := c8 + 0) (by omega) (by omega) ?_
  refine j_callV (pc := 1428) (As := [IV p0]) (rest := []) (hM _ _) (lw_V q1682 q1683 q1684 q48 q1685) rfl md_yX2_stateOf PL.rcM (by decide) (by decide) rfl (Nat.le_of_ble_eq_true rfl) dL_law_1428 (fun v P hq => ?_)
  obtain ⟨r, σ', rfl, hE, rfl⟩ := hq
  refine j_istore (pc := 1431) dL_law_1431 (by decide) (lo' := [some (.ref b), some (.ref o), some (.ref mm), some (.ref ou), some (IV i), some (IV t), some (IV r)]) rfl ?_
  refine j_aload_n (pc := 1433) dL_law_1433 rfl ?_
  refine j_room (cl' := b8 + 0) (sl' := c8 + 0) (by omega) (by omega) ?_
  refine j_callV (pc := 1434) (As := []) (rest := []) (PL.ref L (m_thrown σ' hE.2.2.1.1.1)) (lw_V q1521 q1522 q1523 q48 q1524) rfl md_yX2_thrown PL.rcM (by decide) (by decide) rfl (Nat.le_of_ble_eq_true rfl) dL_law_1434 (fun v P hq => ?_)
  obtain ⟨r2', σ2, rfl, ⟨e1, e2⟩, rfl⟩ := hq
  rw [e2, e1, hE.2.1]
  refine j_iload (pc := 1437) dL_law_1437 rfl ?_
  refine j_icmp_eq (pc := 1439) (tgt := 1444) dL_law_1439 (by decide) (by omega) (by omega) (fun c => ?_) (fun c => absurd rfl c)
  refine j_iload (pc := 1444) dL_law_1444 rfl ?_
  refine j_if_ne (pc := 1446) (tgt := 1461) dL_law_1446 (by decide) (by omega) (fun c => ?_) (fun c => ?_)
  · refine j_goto (pc := 1461) (tgt := 2280) dL_law_1461 (by decide) ?_
    refine j_sub (lo' := [some (.ref b), some (.ref o), some (.ref mm), some (.ref ou), some (IV i), none, none]) ⟨Or.inr rfl, Or.inr rfl, Or.inr rfl, Or.inr rfl, Or.inr rfl, Or.inl rfl, Or.inl rfl, trivial⟩ ?_
    refine j_room (cl' := b8) (sl' := c8) (by omega) (by omega) ?_
    exact jp_wk (fun H h => PL.gs hE.2.2.2.1 hE.2.2.2.2 h) (kk σ' _ hE.2.2.1)
  · refine j_aload_n (pc := 1449) dL_law_1449 rfl ?_
    refine j_iconst (pc := 1450) dL_law_1450 rfl ?_
    refine jp_lald (pc := 1451) PL.cw dL_law_1451 ?_
    rw [hw1 c]
    refine j_iload (pc := 1452) dL_law_1452 rfl ?_
    rw [hE.1 c, IVw res]
    refine j_i2l (pc := 1454) dL_law_1454 (rrI _) ?_
    refine j_lcmpE (pc := 1455) dL_law_1455 ?_
    refine j_if_eq (pc := 1456) (tgt := 1461) dL_law_1456 (by decide) (by decide) (fun c9 => ?_) (fun c9 => absurd rfl c9)
    refine j_goto (pc := 1461) (tgt := 2280) dL_law_1461 (by decide) ?_
    refine j_sub (lo' := [some (.ref b), some (.ref o), some (.ref mm), some (.ref ou), some (IV i), none, none]) ⟨Or.inr rfl, Or.inr rfl, Or.inr rfl, Or.inr rfl, Or.inr rfl, Or.inl rfl, Or.inl rfl, trivial⟩ ?_
    refine j_room (cl' := b8) (sl' := c8) (by omega) (by omega) ?_
    exact jp_wk (fun H h => PL.gs hE.2.2.2.1 hE.2.2.2.2 h) (kk σ' _ hE.2.2.1)

theorem md_yX0_personOf : MD yX0_personOf 3 := by decide +kernel
theorem md_yX2_personOf : MD yX2_personOf 1 := by decide +kernel
set_option maxHeartbeats 4000000 in
theorem lc_21 {Γ : GG} {K : KK} {l : Launch} {N0 N1 N3 o mm ou : Nat} {adm : Nat → Nat} {b LL : Nat} {xs : Nat → Int32} {QP : Option Value → (Heap → Prop) → Prop} {mc ms b8 c8 b9 c9 : Nat} (hfl : l.stackTraces = false) (L : Lie N0 N1 N3 o mm ou adm) (hW : Wd (GE Γ N3) (ACo N0 N1 N3) K) (hX : ∀ (s : State) (H : Heap), Γ.2.2 s H → va_X b LL xs s H) (hbA : ¬ Af N0 b) (hLL : LL ≤ 256) {σ : MM} {T : Nat} (hT : T < 64) (hI : Inv σ T) {w i : Int} (hi : 0 ≤ i ∧ i + 4 ≤ (LL : Int)) (hb : b8 + 300 ≤ b9) (hc : c8 + 36400 ≤ c9) (kk : ∀ (σ' : MM) (w' : Int), Inv σ' (T + 1) → J Γ (Af N0) RP l RX0 "law" cL_law 7 (some .boolean) [] 20 mc ms QP X0 b8 c8 (PL Γ K N0 N1 N3 o mm ou adm σ' σ' w') 2280 [some (.ref b), some (.ref o), some (.ref mm), some (.ref ou), some (IV i), none, none] []) : J Γ (Af N0) RP l RX0 "law" cL_law 7 (some .boolean) [] 20 mc ms QP X0 b9 c9 (PL Γ K N0 N1 N3 o mm ou adm σ σ w) 1464 [some (.ref b), some (.ref o), some (.ref mm), some (.ref ou), some (IV i), none, none] [] := by
  refine jp_wk (fun H h => PL.at0 h) ?_
  obtain ⟨p0, hp0⟩ : ∃ p : Int, p = (xs (i + 1).toNat).toInt := ⟨_, rfl⟩
  have r0 : RR p0 := by rw [hp0]; exact rrI _
  obtain ⟨t, res, fin, ht, hz, hC, hM⟩ := op_personOf (l := l) hfl L hW hT hI p0 r0
  have hS9 : ∀ (c : Nat), c ≤ 36400 → c8 + c ≤ c9 := fun c h => by omega
  refine j_aload_n (pc := 1464) dL_law_1464 rfl ?_
  refine j_aload_n (pc := 1465) dL_law_1465 rfl ?_
  refine j_iload (pc := 1466) dL_law_1466 rfl ?_
  refine j_iconst (pc := 1468) dL_law_1468 rfl ?_
  refine j_iadd (pc := 1469) dL_law_1469 ?_
  refine j_sld (pc := 1470) hX hbA (by omega) (by omega) dL_law_1470 ?_
  rw [← hp0]
  refine j_aload_n (pc := 1471) dL_law_1471 rfl ?_
  refine j_room (cl' := b8 + 3) (sl' := c8 + 14) (by omega) (hS9 14 (by decide)) ?_
  refine j_callSW (pc := 1472) (As := [.ref o, IV p0, .ref ou]) (rest := []) (hC w) (lw_SW q979 q980 q43 q981) md_yX0_personOf (by decide) (by decide) rfl (Nat.le_of_ble_eq_true rfl) dL_law_1472 (fun v P hq => ?_)
  obtain ⟨w1, rfl, hw1, rfl⟩ := hq
  refine j_istore (pc := 1475) dL_law_1475 (by decide) (lo' := [some (.ref b), some (.ref o), some (.ref mm), some (.ref ou), some (IV i), some (IV t), none]) rfl ?_
  refine j_aload_n (pc := 1477) dL_law_1477 rfl ?_
  refine j_aload_n (pc := 1478) dL_law_1478 rfl ?_
  refine j_iload (pc := 1479) dL_law_1479 rfl ?_
  refine j_iconst (pc := 1481) dL_law_1481 rfl ?_
  refine j_iadd (pc := 1482) dL_law_1482 ?_
  refine j_sld (pc := 1483) hX hbA (by omega) (by omega) dL_law_1483 ?_
  rw [← hp0]
  refine j_room (cl' := b8 + 0) (sl' := c8 + 0) (by omega) (by omega) ?_
  refine j_callV (pc := 1484) (As := [IV p0]) (rest := []) (hM _ _) (lw_V q1686 q1687 q1688 q48 q1689) rfl md_yX2_personOf PL.rcM (by decide) (by decide) rfl (Nat.le_of_ble_eq_true rfl) dL_law_1484 (fun v P hq => ?_)
  obtain ⟨r, σ', rfl, hE, rfl⟩ := hq
  refine j_istore (pc := 1487) dL_law_1487 (by decide) (lo' := [some (.ref b), some (.ref o), some (.ref mm), some (.ref ou), some (IV i), some (IV t), some (IV r)]) rfl ?_
  refine j_aload_n (pc := 1489) dL_law_1489 rfl ?_
  refine j_room (cl' := b8 + 0) (sl' := c8 + 0) (by omega) (by omega) ?_
  refine j_callV (pc := 1490) (As := []) (rest := []) (PL.ref L (m_thrown σ' hE.2.2.1.1.1)) (lw_V q1521 q1522 q1523 q48 q1524) rfl md_yX2_thrown PL.rcM (by decide) (by decide) rfl (Nat.le_of_ble_eq_true rfl) dL_law_1490 (fun v P hq => ?_)
  obtain ⟨r2', σ2, rfl, ⟨e1, e2⟩, rfl⟩ := hq
  rw [e2, e1, hE.2.1]
  refine j_iload (pc := 1493) dL_law_1493 rfl ?_
  refine j_icmp_eq (pc := 1495) (tgt := 1500) dL_law_1495 (by decide) (by omega) (by omega) (fun c => ?_) (fun c => absurd rfl c)
  refine j_iload (pc := 1500) dL_law_1500 rfl ?_
  refine j_if_ne (pc := 1502) (tgt := 1517) dL_law_1502 (by decide) (by omega) (fun c => ?_) (fun c => ?_)
  · refine j_goto (pc := 1517) (tgt := 2280) dL_law_1517 (by decide) ?_
    refine j_sub (lo' := [some (.ref b), some (.ref o), some (.ref mm), some (.ref ou), some (IV i), none, none]) ⟨Or.inr rfl, Or.inr rfl, Or.inr rfl, Or.inr rfl, Or.inr rfl, Or.inl rfl, Or.inl rfl, trivial⟩ ?_
    refine j_room (cl' := b8) (sl' := c8) (by omega) (by omega) ?_
    exact jp_wk (fun H h => PL.gs hE.2.2.2.1 hE.2.2.2.2 h) (kk σ' _ hE.2.2.1)
  · refine j_aload_n (pc := 1505) dL_law_1505 rfl ?_
    refine j_iconst (pc := 1506) dL_law_1506 rfl ?_
    refine jp_lald (pc := 1507) PL.cw dL_law_1507 ?_
    rw [hw1 c]
    refine j_iload (pc := 1508) dL_law_1508 rfl ?_
    rw [hE.1 c, IVw res]
    refine j_i2l (pc := 1510) dL_law_1510 (rrI _) ?_
    refine j_lcmpE (pc := 1511) dL_law_1511 ?_
    refine j_if_eq (pc := 1512) (tgt := 1517) dL_law_1512 (by decide) (by decide) (fun c9 => ?_) (fun c9 => absurd rfl c9)
    refine j_goto (pc := 1517) (tgt := 2280) dL_law_1517 (by decide) ?_
    refine j_sub (lo' := [some (.ref b), some (.ref o), some (.ref mm), some (.ref ou), some (IV i), none, none]) ⟨Or.inr rfl, Or.inr rfl, Or.inr rfl, Or.inr rfl, Or.inr rfl, Or.inl rfl, Or.inl rfl, trivial⟩ ?_
    refine j_room (cl' := b8) (sl' := c8) (by omega) (by omega) ?_
    exact jp_wk (fun H h => PL.gs hE.2.2.2.1 hE.2.2.2.2 h) (kk σ' _ hE.2.2.1)

theorem md_yX0_ballots : MD yX0_ballots 3 := by decide +kernel
theorem md_yX2_ballots : MD yX2_ballots 1 := by decide +kernel
set_option maxHeartbeats 4000000 in
theorem lc_22 {Γ : GG} {K : KK} {l : Launch} {N0 N1 N3 o mm ou : Nat} {adm : Nat → Nat} {b LL : Nat} {xs : Nat → Int32} {QP : Option Value → (Heap → Prop) → Prop} {mc ms b8 c8 b9 c9 : Nat} (hfl : l.stackTraces = false) (L : Lie N0 N1 N3 o mm ou adm) (hW : Wd (GE Γ N3) (ACo N0 N1 N3) K) (hX : ∀ (s : State) (H : Heap), Γ.2.2 s H → va_X b LL xs s H) (hbA : ¬ Af N0 b) (hLL : LL ≤ 256) {σ : MM} {T : Nat} (hT : T < 64) (hI : Inv σ T) {w i : Int} (hi : 0 ≤ i ∧ i + 4 ≤ (LL : Int)) (hb : b8 + 300 ≤ b9) (hc : c8 + 36400 ≤ c9) (kk : ∀ (σ' : MM) (w' : Int), Inv σ' (T + 1) → J Γ (Af N0) RP l RX0 "law" cL_law 7 (some .boolean) [] 20 mc ms QP X0 b8 c8 (PL Γ K N0 N1 N3 o mm ou adm σ' σ' w') 2280 [some (.ref b), some (.ref o), some (.ref mm), some (.ref ou), some (IV i), none, none] []) : J Γ (Af N0) RP l RX0 "law" cL_law 7 (some .boolean) [] 20 mc ms QP X0 b9 c9 (PL Γ K N0 N1 N3 o mm ou adm σ σ w) 1520 [some (.ref b), some (.ref o), some (.ref mm), some (.ref ou), some (IV i), none, none] [] := by
  refine jp_wk (fun H h => PL.at0 h) ?_
  obtain ⟨p0, hp0⟩ : ∃ p : Int, p = (xs (i + 1).toNat).toInt := ⟨_, rfl⟩
  have r0 : RR p0 := by rw [hp0]; exact rrI _
  obtain ⟨t, res, fin, ht, hz, hC, hM⟩ := op_ballots (l := l) hfl L hW hT hI p0 r0
  have hS9 : ∀ (c : Nat), c ≤ 36400 → c8 + c ≤ c9 := fun c h => by omega
  refine j_aload_n (pc := 1520) dL_law_1520 rfl ?_
  refine j_aload_n (pc := 1521) dL_law_1521 rfl ?_
  refine j_iload (pc := 1522) dL_law_1522 rfl ?_
  refine j_iconst (pc := 1524) dL_law_1524 rfl ?_
  refine j_iadd (pc := 1525) dL_law_1525 ?_
  refine j_sld (pc := 1526) hX hbA (by omega) (by omega) dL_law_1526 ?_
  rw [← hp0]
  refine j_aload_n (pc := 1527) dL_law_1527 rfl ?_
  refine j_room (cl' := b8 + 8) (sl' := c8 + 30) (by omega) (hS9 30 (by decide)) ?_
  refine j_callSW (pc := 1528) (As := [.ref o, IV p0, .ref ou]) (rest := []) (hC w) (lw_SW q986 q987 q43 q988) md_yX0_ballots (by decide) (by decide) rfl (Nat.le_of_ble_eq_true rfl) dL_law_1528 (fun v P hq => ?_)
  obtain ⟨w1, rfl, hw1, rfl⟩ := hq
  refine j_istore (pc := 1531) dL_law_1531 (by decide) (lo' := [some (.ref b), some (.ref o), some (.ref mm), some (.ref ou), some (IV i), some (IV t), none]) rfl ?_
  refine j_aload_n (pc := 1533) dL_law_1533 rfl ?_
  refine j_aload_n (pc := 1534) dL_law_1534 rfl ?_
  refine j_iload (pc := 1535) dL_law_1535 rfl ?_
  refine j_iconst (pc := 1537) dL_law_1537 rfl ?_
  refine j_iadd (pc := 1538) dL_law_1538 ?_
  refine j_sld (pc := 1539) hX hbA (by omega) (by omega) dL_law_1539 ?_
  rw [← hp0]
  refine j_room (cl' := b8 + 0) (sl' := c8 + 0) (by omega) (by omega) ?_
  refine j_callV (pc := 1540) (As := [IV p0]) (rest := []) (hM _ _) (lw_V q1690 q1691 q1692 q48 q1693) rfl md_yX2_ballots PL.rcM (by decide) (by decide) rfl (Nat.le_of_ble_eq_true rfl) dL_law_1540 (fun v P hq => ?_)
  obtain ⟨r, σ', rfl, hE, rfl⟩ := hq
  refine j_istore (pc := 1543) dL_law_1543 (by decide) (lo' := [some (.ref b), some (.ref o), some (.ref mm), some (.ref ou), some (IV i), some (IV t), some (IV r)]) rfl ?_
  refine j_aload_n (pc := 1545) dL_law_1545 rfl ?_
  refine j_room (cl' := b8 + 0) (sl' := c8 + 0) (by omega) (by omega) ?_
  refine j_callV (pc := 1546) (As := []) (rest := []) (PL.ref L (m_thrown σ' hE.2.2.1.1.1)) (lw_V q1521 q1522 q1523 q48 q1524) rfl md_yX2_thrown PL.rcM (by decide) (by decide) rfl (Nat.le_of_ble_eq_true rfl) dL_law_1546 (fun v P hq => ?_)
  obtain ⟨r2', σ2, rfl, ⟨e1, e2⟩, rfl⟩ := hq
  rw [e2, e1, hE.2.1]
  refine j_iload (pc := 1549) dL_law_1549 rfl ?_
  refine j_icmp_eq (pc := 1551) (tgt := 1556) dL_law_1551 (by decide) (by omega) (by omega) (fun c => ?_) (fun c => absurd rfl c)
  refine j_iload (pc := 1556) dL_law_1556 rfl ?_
  refine j_if_ne (pc := 1558) (tgt := 1573) dL_law_1558 (by decide) (by omega) (fun c => ?_) (fun c => ?_)
  · refine j_goto (pc := 1573) (tgt := 2280) dL_law_1573 (by decide) ?_
    refine j_sub (lo' := [some (.ref b), some (.ref o), some (.ref mm), some (.ref ou), some (IV i), none, none]) ⟨Or.inr rfl, Or.inr rfl, Or.inr rfl, Or.inr rfl, Or.inr rfl, Or.inl rfl, Or.inl rfl, trivial⟩ ?_
    refine j_room (cl' := b8) (sl' := c8) (by omega) (by omega) ?_
    exact jp_wk (fun H h => PL.gs hE.2.2.2.1 hE.2.2.2.2 h) (kk σ' _ hE.2.2.1)
  · refine j_aload_n (pc := 1561) dL_law_1561 rfl ?_
    refine j_iconst (pc := 1562) dL_law_1562 rfl ?_
    refine jp_lald (pc := 1563) PL.cw dL_law_1563 ?_
    rw [hw1 c]
    refine j_iload (pc := 1564) dL_law_1564 rfl ?_
    rw [hE.1 c, IVw res]
    refine j_i2l (pc := 1566) dL_law_1566 (rrI _) ?_
    refine j_lcmpE (pc := 1567) dL_law_1567 ?_
    refine j_if_eq (pc := 1568) (tgt := 1573) dL_law_1568 (by decide) (by decide) (fun c9 => ?_) (fun c9 => absurd rfl c9)
    refine j_goto (pc := 1573) (tgt := 2280) dL_law_1573 (by decide) ?_
    refine j_sub (lo' := [some (.ref b), some (.ref o), some (.ref mm), some (.ref ou), some (IV i), none, none]) ⟨Or.inr rfl, Or.inr rfl, Or.inr rfl, Or.inr rfl, Or.inr rfl, Or.inl rfl, Or.inl rfl, trivial⟩ ?_
    refine j_room (cl' := b8) (sl' := c8) (by omega) (by omega) ?_
    exact jp_wk (fun H h => PL.gs hE.2.2.2.1 hE.2.2.2.2 h) (kk σ' _ hE.2.2.1)

theorem md_yX0_setSlip : MD yX0_setSlip 4 := by decide +kernel
theorem md_yX2_setSlip : MD yX2_setSlip 2 := by decide +kernel
set_option maxHeartbeats 4000000 in
theorem lc_23 {Γ : GG} {K : KK} {l : Launch} {N0 N1 N3 o mm ou : Nat} {adm : Nat → Nat} {b LL : Nat} {xs : Nat → Int32} {QP : Option Value → (Heap → Prop) → Prop} {mc ms b8 c8 b9 c9 : Nat} (hfl : l.stackTraces = false) (L : Lie N0 N1 N3 o mm ou adm) (hW : Wd (GE Γ N3) (ACo N0 N1 N3) K) (hX : ∀ (s : State) (H : Heap), Γ.2.2 s H → va_X b LL xs s H) (hbA : ¬ Af N0 b) (hLL : LL ≤ 256) {σ : MM} {T : Nat} (hT : T < 64) (hI : Inv σ T) {w i : Int} (hi : 0 ≤ i ∧ i + 4 ≤ (LL : Int)) (hb : b8 + 300 ≤ b9) (hc : c8 + 36400 ≤ c9) (kk : ∀ (σ' : MM) (w' : Int), Inv σ' (T + 1) → J Γ (Af N0) RP l RX0 "law" cL_law 7 (some .boolean) [] 20 mc ms QP X0 b8 c8 (PL Γ K N0 N1 N3 o mm ou adm σ' σ' w') 2280 [some (.ref b), some (.ref o), some (.ref mm), some (.ref ou), some (IV i), none, none] []) : J Γ (Af N0) RP l RX0 "law" cL_law 7 (some .boolean) [] 20 mc ms QP X0 b9 c9 (PL Γ K N0 N1 N3 o mm ou adm σ σ w) 1576 [some (.ref b), some (.ref o), some (.ref mm), some (.ref ou), some (IV i), none, none] [] := by
  refine jp_wk (fun H h => PL.at0 h) ?_
  obtain ⟨p0, hp0⟩ : ∃ p : Int, p = (xs (i + 1).toNat).toInt := ⟨_, rfl⟩
  have r0 : RR p0 := by rw [hp0]; exact rrI _
  obtain ⟨p1, hp1⟩ : ∃ p : Int, p = (xs (i + 2).toNat).toInt := ⟨_, rfl⟩
  have r1 : RR p1 := by rw [hp1]; exact rrI _
  obtain ⟨t, res, fin, ht, hz, hC, hM⟩ := op_setSlip (l := l) hfl L hW hT hI p0 p1 r0 r1
  have hS9 : ∀ (c : Nat), c ≤ 36400 → c8 + c ≤ c9 := fun c h => by omega
  refine j_aload_n (pc := 1576) dL_law_1576 rfl ?_
  refine j_aload_n (pc := 1577) dL_law_1577 rfl ?_
  refine j_iload (pc := 1578) dL_law_1578 rfl ?_
  refine j_iconst (pc := 1580) dL_law_1580 rfl ?_
  refine j_iadd (pc := 1581) dL_law_1581 ?_
  refine j_sld (pc := 1582) hX hbA (by omega) (by omega) dL_law_1582 ?_
  rw [← hp0]
  refine j_aload_n (pc := 1583) dL_law_1583 rfl ?_
  refine j_iload (pc := 1584) dL_law_1584 rfl ?_
  refine j_iconst (pc := 1586) dL_law_1586 rfl ?_
  refine j_iadd (pc := 1587) dL_law_1587 ?_
  refine j_sld (pc := 1588) hX hbA (by omega) (by omega) dL_law_1588 ?_
  rw [← hp1]
  refine j_aload_n (pc := 1589) dL_law_1589 rfl ?_
  refine j_room (cl' := b8 + 3) (sl' := c8 + 14) (by omega) (hS9 14 (by decide)) ?_
  refine j_callSW (pc := 1590) (As := [.ref o, IV p0, IV p1, .ref ou]) (rest := []) (hC w) (lw_SW q993 q994 q43 q995) md_yX0_setSlip (by decide) (by decide) rfl (Nat.le_of_ble_eq_true rfl) dL_law_1590 (fun v P hq => ?_)
  obtain ⟨w1, rfl, hw1, rfl⟩ := hq
  refine j_istore (pc := 1593) dL_law_1593 (by decide) (lo' := [some (.ref b), some (.ref o), some (.ref mm), some (.ref ou), some (IV i), some (IV t), none]) rfl ?_
  refine j_aload_n (pc := 1595) dL_law_1595 rfl ?_
  refine j_aload_n (pc := 1596) dL_law_1596 rfl ?_
  refine j_iload (pc := 1597) dL_law_1597 rfl ?_
  refine j_iconst (pc := 1599) dL_law_1599 rfl ?_
  refine j_iadd (pc := 1600) dL_law_1600 ?_
  refine j_sld (pc := 1601) hX hbA (by omega) (by omega) dL_law_1601 ?_
  rw [← hp0]
  refine j_aload_n (pc := 1602) dL_law_1602 rfl ?_
  refine j_iload (pc := 1603) dL_law_1603 rfl ?_
  refine j_iconst (pc := 1605) dL_law_1605 rfl ?_
  refine j_iadd (pc := 1606) dL_law_1606 ?_
  refine j_sld (pc := 1607) hX hbA (by omega) (by omega) dL_law_1607 ?_
  rw [← hp1]
  refine j_room (cl' := b8 + 0) (sl' := c8 + 0) (by omega) (by omega) ?_
  refine j_callV (pc := 1608) (As := [IV p0, IV p1]) (rest := []) (hM _ _) (lw_V q1694 q1695 q1696 q48 q1697) rfl md_yX2_setSlip PL.rcM (by decide) (by decide) rfl (Nat.le_of_ble_eq_true rfl) dL_law_1608 (fun v P hq => ?_)
  obtain ⟨r, σ', rfl, hE, rfl⟩ := hq
  refine j_istore (pc := 1611) dL_law_1611 (by decide) (lo' := [some (.ref b), some (.ref o), some (.ref mm), some (.ref ou), some (IV i), some (IV t), some (IV r)]) rfl ?_
  refine j_aload_n (pc := 1613) dL_law_1613 rfl ?_
  refine j_room (cl' := b8 + 0) (sl' := c8 + 0) (by omega) (by omega) ?_
  refine j_callV (pc := 1614) (As := []) (rest := []) (PL.ref L (m_thrown σ' hE.2.2.1.1.1)) (lw_V q1521 q1522 q1523 q48 q1524) rfl md_yX2_thrown PL.rcM (by decide) (by decide) rfl (Nat.le_of_ble_eq_true rfl) dL_law_1614 (fun v P hq => ?_)
  obtain ⟨r2', σ2, rfl, ⟨e1, e2⟩, rfl⟩ := hq
  rw [e2, e1, hE.2.1]
  refine j_iload (pc := 1617) dL_law_1617 rfl ?_
  refine j_icmp_eq (pc := 1619) (tgt := 1624) dL_law_1619 (by decide) (by omega) (by omega) (fun c => ?_) (fun c => absurd rfl c)
  refine j_iload (pc := 1624) dL_law_1624 rfl ?_
  refine j_if_ne (pc := 1626) (tgt := 1641) dL_law_1626 (by decide) (by omega) (fun c => ?_) (fun c => ?_)
  · refine j_goto (pc := 1641) (tgt := 2280) dL_law_1641 (by decide) ?_
    refine j_sub (lo' := [some (.ref b), some (.ref o), some (.ref mm), some (.ref ou), some (IV i), none, none]) ⟨Or.inr rfl, Or.inr rfl, Or.inr rfl, Or.inr rfl, Or.inr rfl, Or.inl rfl, Or.inl rfl, trivial⟩ ?_
    refine j_room (cl' := b8) (sl' := c8) (by omega) (by omega) ?_
    exact jp_wk (fun H h => PL.gs hE.2.2.2.1 hE.2.2.2.2 h) (kk σ' _ hE.2.2.1)
  · refine j_aload_n (pc := 1629) dL_law_1629 rfl ?_
    refine j_iconst (pc := 1630) dL_law_1630 rfl ?_
    refine jp_lald (pc := 1631) PL.cw dL_law_1631 ?_
    rw [hw1 c]
    refine j_iload (pc := 1632) dL_law_1632 rfl ?_
    rw [hE.1 c, IVw res]
    refine j_i2l (pc := 1634) dL_law_1634 (rrI _) ?_
    refine j_lcmpE (pc := 1635) dL_law_1635 ?_
    refine j_if_eq (pc := 1636) (tgt := 1641) dL_law_1636 (by decide) (by decide) (fun c9 => ?_) (fun c9 => absurd rfl c9)
    refine j_goto (pc := 1641) (tgt := 2280) dL_law_1641 (by decide) ?_
    refine j_sub (lo' := [some (.ref b), some (.ref o), some (.ref mm), some (.ref ou), some (IV i), none, none]) ⟨Or.inr rfl, Or.inr rfl, Or.inr rfl, Or.inr rfl, Or.inr rfl, Or.inl rfl, Or.inl rfl, trivial⟩ ?_
    refine j_room (cl' := b8) (sl' := c8) (by omega) (by omega) ?_
    exact jp_wk (fun H h => PL.gs hE.2.2.2.1 hE.2.2.2.2 h) (kk σ' _ hE.2.2.1)

theorem md_yX0_count : MD yX0_count 4 := by decide +kernel
theorem md_yX2_count : MD yX2_count 2 := by decide +kernel
set_option maxHeartbeats 4000000 in
theorem lc_24 {Γ : GG} {K : KK} {l : Launch} {N0 N1 N3 o mm ou : Nat} {adm : Nat → Nat} {b LL : Nat} {xs : Nat → Int32} {QP : Option Value → (Heap → Prop) → Prop} {mc ms b8 c8 b9 c9 : Nat} (hfl : l.stackTraces = false) (L : Lie N0 N1 N3 o mm ou adm) (hW : Wd (GE Γ N3) (ACo N0 N1 N3) K) (hX : ∀ (s : State) (H : Heap), Γ.2.2 s H → va_X b LL xs s H) (hbA : ¬ Af N0 b) (hLL : LL ≤ 256) {σ : MM} {T : Nat} (hT : T < 64) (hI : Inv σ T) {w i : Int} (hi : 0 ≤ i ∧ i + 4 ≤ (LL : Int)) (hb : b8 + 300 ≤ b9) (hc : c8 + 36400 ≤ c9) (kk : ∀ (σ' : MM) (w' : Int), Inv σ' (T + 1) → J Γ (Af N0) RP l RX0 "law" cL_law 7 (some .boolean) [] 20 mc ms QP X0 b8 c8 (PL Γ K N0 N1 N3 o mm ou adm σ' σ' w') 2280 [some (.ref b), some (.ref o), some (.ref mm), some (.ref ou), some (IV i), none, none] []) : J Γ (Af N0) RP l RX0 "law" cL_law 7 (some .boolean) [] 20 mc ms QP X0 b9 c9 (PL Γ K N0 N1 N3 o mm ou adm σ σ w) 1644 [some (.ref b), some (.ref o), some (.ref mm), some (.ref ou), some (IV i), none, none] [] := by
  refine jp_wk (fun H h => PL.at0 h) ?_
  obtain ⟨p0, hp0⟩ : ∃ p : Int, p = (xs (i + 1).toNat).toInt := ⟨_, rfl⟩
  have r0 : RR p0 := by rw [hp0]; exact rrI _
  obtain ⟨p1, hp1⟩ : ∃ p : Int, p = (xs (i + 2).toNat).toInt := ⟨_, rfl⟩
  have r1 : RR p1 := by rw [hp1]; exact rrI _
  obtain ⟨t, res, fin, ht, hz, hC, hM⟩ := op_count (l := l) hfl L hW hT hI p0 p1 r0 r1
  have hS9 : ∀ (c : Nat), c ≤ 36400 → c8 + c ≤ c9 := fun c h => by omega
  refine j_aload_n (pc := 1644) dL_law_1644 rfl ?_
  refine j_aload_n (pc := 1645) dL_law_1645 rfl ?_
  refine j_iload (pc := 1646) dL_law_1646 rfl ?_
  refine j_iconst (pc := 1648) dL_law_1648 rfl ?_
  refine j_iadd (pc := 1649) dL_law_1649 ?_
  refine j_sld (pc := 1650) hX hbA (by omega) (by omega) dL_law_1650 ?_
  rw [← hp0]
  refine j_aload_n (pc := 1651) dL_law_1651 rfl ?_
  refine j_iload (pc := 1652) dL_law_1652 rfl ?_
  refine j_iconst (pc := 1654) dL_law_1654 rfl ?_
  refine j_iadd (pc := 1655) dL_law_1655 ?_
  refine j_sld (pc := 1656) hX hbA (by omega) (by omega) dL_law_1656 ?_
  rw [← hp1]
  refine j_aload_n (pc := 1657) dL_law_1657 rfl ?_
  refine j_room (cl' := b8 + 14) (sl' := c8 + 620) (by omega) (hS9 620 (by decide)) ?_
  refine j_callSW (pc := 1658) (As := [.ref o, IV p0, IV p1, .ref ou]) (rest := []) (hC w) (lw_SW q1000 q1001 q43 q1002) md_yX0_count (by decide) (by decide) rfl (Nat.le_of_ble_eq_true rfl) dL_law_1658 (fun v P hq => ?_)
  obtain ⟨w1, rfl, hw1, rfl⟩ := hq
  refine j_istore (pc := 1661) dL_law_1661 (by decide) (lo' := [some (.ref b), some (.ref o), some (.ref mm), some (.ref ou), some (IV i), some (IV t), none]) rfl ?_
  refine j_aload_n (pc := 1663) dL_law_1663 rfl ?_
  refine j_aload_n (pc := 1664) dL_law_1664 rfl ?_
  refine j_iload (pc := 1665) dL_law_1665 rfl ?_
  refine j_iconst (pc := 1667) dL_law_1667 rfl ?_
  refine j_iadd (pc := 1668) dL_law_1668 ?_
  refine j_sld (pc := 1669) hX hbA (by omega) (by omega) dL_law_1669 ?_
  rw [← hp0]
  refine j_aload_n (pc := 1670) dL_law_1670 rfl ?_
  refine j_iload (pc := 1671) dL_law_1671 rfl ?_
  refine j_iconst (pc := 1673) dL_law_1673 rfl ?_
  refine j_iadd (pc := 1674) dL_law_1674 ?_
  refine j_sld (pc := 1675) hX hbA (by omega) (by omega) dL_law_1675 ?_
  rw [← hp1]
  refine j_room (cl' := b8 + 0) (sl' := c8 + 0) (by omega) (by omega) ?_
  refine j_callV (pc := 1676) (As := [IV p0, IV p1]) (rest := []) (hM _ _) (lw_V q1698 q1699 q1700 q48 q1701) rfl md_yX2_count PL.rcM (by decide) (by decide) rfl (Nat.le_of_ble_eq_true rfl) dL_law_1676 (fun v P hq => ?_)
  obtain ⟨r, σ', rfl, hE, rfl⟩ := hq
  refine j_istore (pc := 1679) dL_law_1679 (by decide) (lo' := [some (.ref b), some (.ref o), some (.ref mm), some (.ref ou), some (IV i), some (IV t), some (IV r)]) rfl ?_
  refine j_aload_n (pc := 1681) dL_law_1681 rfl ?_
  refine j_room (cl' := b8 + 0) (sl' := c8 + 0) (by omega) (by omega) ?_
  refine j_callV (pc := 1682) (As := []) (rest := []) (PL.ref L (m_thrown σ' hE.2.2.1.1.1)) (lw_V q1521 q1522 q1523 q48 q1524) rfl md_yX2_thrown PL.rcM (by decide) (by decide) rfl (Nat.le_of_ble_eq_true rfl) dL_law_1682 (fun v P hq => ?_)
  obtain ⟨r2', σ2, rfl, ⟨e1, e2⟩, rfl⟩ := hq
  rw [e2, e1, hE.2.1]
  refine j_iload (pc := 1685) dL_law_1685 rfl ?_
  refine j_icmp_eq (pc := 1687) (tgt := 1692) dL_law_1687 (by decide) (by omega) (by omega) (fun c => ?_) (fun c => absurd rfl c)
  refine j_iload (pc := 1692) dL_law_1692 rfl ?_
  refine j_if_ne (pc := 1694) (tgt := 1716) dL_law_1694 (by decide) (by omega) (fun c => ?_) (fun c => ?_)
  · refine j_goto (pc := 1716) (tgt := 2280) dL_law_1716 (by decide) ?_
    refine j_sub (lo' := [some (.ref b), some (.ref o), some (.ref mm), some (.ref ou), some (IV i), none, none]) ⟨Or.inr rfl, Or.inr rfl, Or.inr rfl, Or.inr rfl, Or.inr rfl, Or.inl rfl, Or.inl rfl, trivial⟩ ?_
    refine j_room (cl' := b8) (sl' := c8) (by omega) (by omega) ?_
    exact jp_wk (fun H h => PL.gs hE.2.2.2.1 hE.2.2.2.2 h) (kk σ' _ hE.2.2.1)
  · refine j_aload_n (pc := 1697) dL_law_1697 rfl ?_
    refine j_iconst (pc := 1698) dL_law_1698 rfl ?_
    refine jp_lald (pc := 1699) PL.cw dL_law_1699 ?_
    rw [hw1 c]
    refine j_iload (pc := 1700) dL_law_1700 rfl ?_
    rw [hE.1 c]
    have h01 := hz trivial
    refine j_if_eq (pc := 1702) (tgt := 1709) dL_law_1702 (by decide) (by omega) (fun c2 => ?_) (fun c2 => ?_)
    · refine j_lconst (pc := 1709) (v := Int64.ofInt 0) dL_law_1709 rfl ?_
      rw [show (iI res).toInt = 0 from by rw [show res = 0 from by omega]; rfl]
      refine j_lcmpE (pc := 1710) dL_law_1710 ?_
      refine j_if_eq (pc := 1711) (tgt := 1716) dL_law_1711 (by decide) (by decide) (fun c9 => ?_) (fun c9 => absurd rfl c9)
      refine j_goto (pc := 1716) (tgt := 2280) dL_law_1716 (by decide) ?_
      refine j_sub (lo' := [some (.ref b), some (.ref o), some (.ref mm), some (.ref ou), some (IV i), none, none]) ⟨Or.inr rfl, Or.inr rfl, Or.inr rfl, Or.inr rfl, Or.inr rfl, Or.inl rfl, Or.inl rfl, trivial⟩ ?_
      refine j_room (cl' := b8) (sl' := c8) (by omega) (by omega) ?_
      exact jp_wk (fun H h => PL.gs hE.2.2.2.1 hE.2.2.2.2 h) (kk σ' _ hE.2.2.1)
    · refine j_lconst (pc := 1705) (v := Int64.ofInt 1) dL_law_1705 rfl ?_
      refine j_goto (pc := 1706) (tgt := 1710) dL_law_1706 (by decide) ?_
      rw [show (iI res).toInt = 1 from by rw [show res = 1 from by omega]; rfl]
      refine j_lcmpE (pc := 1710) dL_law_1710 ?_
      refine j_if_eq (pc := 1711) (tgt := 1716) dL_law_1711 (by decide) (by decide) (fun c9 => ?_) (fun c9 => absurd rfl c9)
      refine j_goto (pc := 1716) (tgt := 2280) dL_law_1716 (by decide) ?_
      refine j_sub (lo' := [some (.ref b), some (.ref o), some (.ref mm), some (.ref ou), some (IV i), none, none]) ⟨Or.inr rfl, Or.inr rfl, Or.inr rfl, Or.inr rfl, Or.inr rfl, Or.inl rfl, Or.inl rfl, trivial⟩ ?_
      refine j_room (cl' := b8) (sl' := c8) (by omega) (by omega) ?_
      exact jp_wk (fun H h => PL.gs hE.2.2.2.1 hE.2.2.2.2 h) (kk σ' _ hE.2.2.1)

theorem md_yX0_recount : MD yX0_recount 3 := by decide +kernel
theorem md_yX2_recount : MD yX2_recount 1 := by decide +kernel
set_option maxHeartbeats 4000000 in
theorem lc_25 {Γ : GG} {K : KK} {l : Launch} {N0 N1 N3 o mm ou : Nat} {adm : Nat → Nat} {b LL : Nat} {xs : Nat → Int32} {QP : Option Value → (Heap → Prop) → Prop} {mc ms b8 c8 b9 c9 : Nat} (hfl : l.stackTraces = false) (L : Lie N0 N1 N3 o mm ou adm) (hW : Wd (GE Γ N3) (ACo N0 N1 N3) K) (hX : ∀ (s : State) (H : Heap), Γ.2.2 s H → va_X b LL xs s H) (hbA : ¬ Af N0 b) (hLL : LL ≤ 256) {σ : MM} {T : Nat} (hT : T < 64) (hI : Inv σ T) {w i : Int} (hi : 0 ≤ i ∧ i + 4 ≤ (LL : Int)) (hb : b8 + 300 ≤ b9) (hc : c8 + 36400 ≤ c9) (kk : ∀ (σ' : MM) (w' : Int), Inv σ' (T + 1) → J Γ (Af N0) RP l RX0 "law" cL_law 7 (some .boolean) [] 20 mc ms QP X0 b8 c8 (PL Γ K N0 N1 N3 o mm ou adm σ' σ' w') 2280 [some (.ref b), some (.ref o), some (.ref mm), some (.ref ou), some (IV i), none, none] []) : J Γ (Af N0) RP l RX0 "law" cL_law 7 (some .boolean) [] 20 mc ms QP X0 b9 c9 (PL Γ K N0 N1 N3 o mm ou adm σ σ w) 1719 [some (.ref b), some (.ref o), some (.ref mm), some (.ref ou), some (IV i), none, none] [] := by
  refine jp_wk (fun H h => PL.at0 h) ?_
  obtain ⟨p0, hp0⟩ : ∃ p : Int, p = (xs (i + 1).toNat).toInt := ⟨_, rfl⟩
  have r0 : RR p0 := by rw [hp0]; exact rrI _
  obtain ⟨t, res, fin, ht, hz, hC, hM⟩ := op_recount (l := l) hfl L hW hT hI p0 r0
  have hS9 : ∀ (c : Nat), c ≤ 36400 → c8 + c ≤ c9 := fun c h => by omega
  refine j_aload_n (pc := 1719) dL_law_1719 rfl ?_
  refine j_aload_n (pc := 1720) dL_law_1720 rfl ?_
  refine j_iload (pc := 1721) dL_law_1721 rfl ?_
  refine j_iconst (pc := 1723) dL_law_1723 rfl ?_
  refine j_iadd (pc := 1724) dL_law_1724 ?_
  refine j_sld (pc := 1725) hX hbA (by omega) (by omega) dL_law_1725 ?_
  rw [← hp0]
  refine j_aload_n (pc := 1726) dL_law_1726 rfl ?_
  refine j_room (cl' := b8 + 8) (sl' := c8 + 30) (by omega) (hS9 30 (by decide)) ?_
  refine j_callSW (pc := 1727) (As := [.ref o, IV p0, .ref ou]) (rest := []) (hC w) (lw_SW q1026 q1027 q43 q1028) md_yX0_recount (by decide) (by decide) rfl (Nat.le_of_ble_eq_true rfl) dL_law_1727 (fun v P hq => ?_)
  obtain ⟨w1, rfl, hw1, rfl⟩ := hq
  refine j_istore (pc := 1730) dL_law_1730 (by decide) (lo' := [some (.ref b), some (.ref o), some (.ref mm), some (.ref ou), some (IV i), some (IV t), none]) rfl ?_
  refine j_aload_n (pc := 1732) dL_law_1732 rfl ?_
  refine j_aload_n (pc := 1733) dL_law_1733 rfl ?_
  refine j_iload (pc := 1734) dL_law_1734 rfl ?_
  refine j_iconst (pc := 1736) dL_law_1736 rfl ?_
  refine j_iadd (pc := 1737) dL_law_1737 ?_
  refine j_sld (pc := 1738) hX hbA (by omega) (by omega) dL_law_1738 ?_
  rw [← hp0]
  refine j_room (cl' := b8 + 0) (sl' := c8 + 0) (by omega) (by omega) ?_
  refine j_callV (pc := 1739) (As := [IV p0]) (rest := []) (hM _ _) (lw_V q1706 q1707 q1708 q48 q1709) rfl md_yX2_recount PL.rcM (by decide) (by decide) rfl (Nat.le_of_ble_eq_true rfl) dL_law_1739 (fun v P hq => ?_)
  obtain ⟨r, σ', rfl, hE, rfl⟩ := hq
  refine j_istore (pc := 1742) dL_law_1742 (by decide) (lo' := [some (.ref b), some (.ref o), some (.ref mm), some (.ref ou), some (IV i), some (IV t), some (IV r)]) rfl ?_
  refine j_aload_n (pc := 1744) dL_law_1744 rfl ?_
  refine j_room (cl' := b8 + 0) (sl' := c8 + 0) (by omega) (by omega) ?_
  refine j_callV (pc := 1745) (As := []) (rest := []) (PL.ref L (m_thrown σ' hE.2.2.1.1.1)) (lw_V q1521 q1522 q1523 q48 q1524) rfl md_yX2_thrown PL.rcM (by decide) (by decide) rfl (Nat.le_of_ble_eq_true rfl) dL_law_1745 (fun v P hq => ?_)
  obtain ⟨r2', σ2, rfl, ⟨e1, e2⟩, rfl⟩ := hq
  rw [e2, e1, hE.2.1]
  refine j_iload (pc := 1748) dL_law_1748 rfl ?_
  refine j_icmp_eq (pc := 1750) (tgt := 1755) dL_law_1750 (by decide) (by omega) (by omega) (fun c => ?_) (fun c => absurd rfl c)
  refine j_iload (pc := 1755) dL_law_1755 rfl ?_
  refine j_if_ne (pc := 1757) (tgt := 1772) dL_law_1757 (by decide) (by omega) (fun c => ?_) (fun c => ?_)
  · refine j_goto (pc := 1772) (tgt := 2280) dL_law_1772 (by decide) ?_
    refine j_sub (lo' := [some (.ref b), some (.ref o), some (.ref mm), some (.ref ou), some (IV i), none, none]) ⟨Or.inr rfl, Or.inr rfl, Or.inr rfl, Or.inr rfl, Or.inr rfl, Or.inl rfl, Or.inl rfl, trivial⟩ ?_
    refine j_room (cl' := b8) (sl' := c8) (by omega) (by omega) ?_
    exact jp_wk (fun H h => PL.gs hE.2.2.2.1 hE.2.2.2.2 h) (kk σ' _ hE.2.2.1)
  · refine j_aload_n (pc := 1760) dL_law_1760 rfl ?_
    refine j_iconst (pc := 1761) dL_law_1761 rfl ?_
    refine jp_lald (pc := 1762) PL.cw dL_law_1762 ?_
    rw [hw1 c]
    refine j_iload (pc := 1763) dL_law_1763 rfl ?_
    rw [hE.1 c, IVw res]
    refine j_i2l (pc := 1765) dL_law_1765 (rrI _) ?_
    refine j_lcmpE (pc := 1766) dL_law_1766 ?_
    refine j_if_eq (pc := 1767) (tgt := 1772) dL_law_1767 (by decide) (by decide) (fun c9 => ?_) (fun c9 => absurd rfl c9)
    refine j_goto (pc := 1772) (tgt := 2280) dL_law_1772 (by decide) ?_
    refine j_sub (lo' := [some (.ref b), some (.ref o), some (.ref mm), some (.ref ou), some (IV i), none, none]) ⟨Or.inr rfl, Or.inr rfl, Or.inr rfl, Or.inr rfl, Or.inr rfl, Or.inl rfl, Or.inl rfl, trivial⟩ ?_
    refine j_room (cl' := b8) (sl' := c8) (by omega) (by omega) ?_
    exact jp_wk (fun H h => PL.gs hE.2.2.2.1 hE.2.2.2.2 h) (kk σ' _ hE.2.2.1)

theorem md_yX0_isSettled : MD yX0_isSettled 3 := by decide +kernel
theorem md_yX2_isSettled : MD yX2_isSettled 1 := by decide +kernel
set_option maxHeartbeats 4000000 in
theorem lc_26 {Γ : GG} {K : KK} {l : Launch} {N0 N1 N3 o mm ou : Nat} {adm : Nat → Nat} {b LL : Nat} {xs : Nat → Int32} {QP : Option Value → (Heap → Prop) → Prop} {mc ms b8 c8 b9 c9 : Nat} (hfl : l.stackTraces = false) (L : Lie N0 N1 N3 o mm ou adm) (hW : Wd (GE Γ N3) (ACo N0 N1 N3) K) (hX : ∀ (s : State) (H : Heap), Γ.2.2 s H → va_X b LL xs s H) (hbA : ¬ Af N0 b) (hLL : LL ≤ 256) {σ : MM} {T : Nat} (hT : T < 64) (hI : Inv σ T) {w i : Int} (hi : 0 ≤ i ∧ i + 4 ≤ (LL : Int)) (hb : b8 + 300 ≤ b9) (hc : c8 + 36400 ≤ c9) (kk : ∀ (σ' : MM) (w' : Int), Inv σ' (T + 1) → J Γ (Af N0) RP l RX0 "law" cL_law 7 (some .boolean) [] 20 mc ms QP X0 b8 c8 (PL Γ K N0 N1 N3 o mm ou adm σ' σ' w') 2280 [some (.ref b), some (.ref o), some (.ref mm), some (.ref ou), some (IV i), none, none] []) : J Γ (Af N0) RP l RX0 "law" cL_law 7 (some .boolean) [] 20 mc ms QP X0 b9 c9 (PL Γ K N0 N1 N3 o mm ou adm σ σ w) 1775 [some (.ref b), some (.ref o), some (.ref mm), some (.ref ou), some (IV i), none, none] [] := by
  refine jp_wk (fun H h => PL.at0 h) ?_
  obtain ⟨p0, hp0⟩ : ∃ p : Int, p = (xs (i + 1).toNat).toInt := ⟨_, rfl⟩
  have r0 : RR p0 := by rw [hp0]; exact rrI _
  obtain ⟨t, res, fin, ht, hz, hC, hM⟩ := op_isSettled (l := l) hfl L hW hT hI p0 r0
  have hS9 : ∀ (c : Nat), c ≤ 36400 → c8 + c ≤ c9 := fun c h => by omega
  refine j_aload_n (pc := 1775) dL_law_1775 rfl ?_
  refine j_aload_n (pc := 1776) dL_law_1776 rfl ?_
  refine j_iload (pc := 1777) dL_law_1777 rfl ?_
  refine j_iconst (pc := 1779) dL_law_1779 rfl ?_
  refine j_iadd (pc := 1780) dL_law_1780 ?_
  refine j_sld (pc := 1781) hX hbA (by omega) (by omega) dL_law_1781 ?_
  rw [← hp0]
  refine j_aload_n (pc := 1782) dL_law_1782 rfl ?_
  refine j_room (cl' := b8 + 8) (sl' := c8 + 30) (by omega) (hS9 30 (by decide)) ?_
  refine j_callSW (pc := 1783) (As := [.ref o, IV p0, .ref ou]) (rest := []) (hC w) (lw_SW q1042 q1043 q43 q1044) md_yX0_isSettled (by decide) (by decide) rfl (Nat.le_of_ble_eq_true rfl) dL_law_1783 (fun v P hq => ?_)
  obtain ⟨w1, rfl, hw1, rfl⟩ := hq
  refine j_istore (pc := 1786) dL_law_1786 (by decide) (lo' := [some (.ref b), some (.ref o), some (.ref mm), some (.ref ou), some (IV i), some (IV t), none]) rfl ?_
  refine j_aload_n (pc := 1788) dL_law_1788 rfl ?_
  refine j_aload_n (pc := 1789) dL_law_1789 rfl ?_
  refine j_iload (pc := 1790) dL_law_1790 rfl ?_
  refine j_iconst (pc := 1792) dL_law_1792 rfl ?_
  refine j_iadd (pc := 1793) dL_law_1793 ?_
  refine j_sld (pc := 1794) hX hbA (by omega) (by omega) dL_law_1794 ?_
  rw [← hp0]
  refine j_room (cl' := b8 + 0) (sl' := c8 + 0) (by omega) (by omega) ?_
  refine j_callV (pc := 1795) (As := [IV p0]) (rest := []) (hM _ _) (lw_V q1710 q1711 q1712 q48 q1713) rfl md_yX2_isSettled PL.rcM (by decide) (by decide) rfl (Nat.le_of_ble_eq_true rfl) dL_law_1795 (fun v P hq => ?_)
  obtain ⟨r, σ', rfl, hE, rfl⟩ := hq
  refine j_istore (pc := 1798) dL_law_1798 (by decide) (lo' := [some (.ref b), some (.ref o), some (.ref mm), some (.ref ou), some (IV i), some (IV t), some (IV r)]) rfl ?_
  refine j_aload_n (pc := 1800) dL_law_1800 rfl ?_
  refine j_room (cl' := b8 + 0) (sl' := c8 + 0) (by omega) (by omega) ?_
  refine j_callV (pc := 1801) (As := []) (rest := []) (PL.ref L (m_thrown σ' hE.2.2.1.1.1)) (lw_V q1521 q1522 q1523 q48 q1524) rfl md_yX2_thrown PL.rcM (by decide) (by decide) rfl (Nat.le_of_ble_eq_true rfl) dL_law_1801 (fun v P hq => ?_)
  obtain ⟨r2', σ2, rfl, ⟨e1, e2⟩, rfl⟩ := hq
  rw [e2, e1, hE.2.1]
  refine j_iload (pc := 1804) dL_law_1804 rfl ?_
  refine j_icmp_eq (pc := 1806) (tgt := 1811) dL_law_1806 (by decide) (by omega) (by omega) (fun c => ?_) (fun c => absurd rfl c)
  refine j_iload (pc := 1811) dL_law_1811 rfl ?_
  refine j_if_ne (pc := 1813) (tgt := 1835) dL_law_1813 (by decide) (by omega) (fun c => ?_) (fun c => ?_)
  · refine j_goto (pc := 1835) (tgt := 2280) dL_law_1835 (by decide) ?_
    refine j_sub (lo' := [some (.ref b), some (.ref o), some (.ref mm), some (.ref ou), some (IV i), none, none]) ⟨Or.inr rfl, Or.inr rfl, Or.inr rfl, Or.inr rfl, Or.inr rfl, Or.inl rfl, Or.inl rfl, trivial⟩ ?_
    refine j_room (cl' := b8) (sl' := c8) (by omega) (by omega) ?_
    exact jp_wk (fun H h => PL.gs hE.2.2.2.1 hE.2.2.2.2 h) (kk σ' _ hE.2.2.1)
  · refine j_aload_n (pc := 1816) dL_law_1816 rfl ?_
    refine j_iconst (pc := 1817) dL_law_1817 rfl ?_
    refine jp_lald (pc := 1818) PL.cw dL_law_1818 ?_
    rw [hw1 c]
    refine j_iload (pc := 1819) dL_law_1819 rfl ?_
    rw [hE.1 c]
    have h01 := hz trivial
    refine j_if_eq (pc := 1821) (tgt := 1828) dL_law_1821 (by decide) (by omega) (fun c2 => ?_) (fun c2 => ?_)
    · refine j_lconst (pc := 1828) (v := Int64.ofInt 0) dL_law_1828 rfl ?_
      rw [show (iI res).toInt = 0 from by rw [show res = 0 from by omega]; rfl]
      refine j_lcmpE (pc := 1829) dL_law_1829 ?_
      refine j_if_eq (pc := 1830) (tgt := 1835) dL_law_1830 (by decide) (by decide) (fun c9 => ?_) (fun c9 => absurd rfl c9)
      refine j_goto (pc := 1835) (tgt := 2280) dL_law_1835 (by decide) ?_
      refine j_sub (lo' := [some (.ref b), some (.ref o), some (.ref mm), some (.ref ou), some (IV i), none, none]) ⟨Or.inr rfl, Or.inr rfl, Or.inr rfl, Or.inr rfl, Or.inr rfl, Or.inl rfl, Or.inl rfl, trivial⟩ ?_
      refine j_room (cl' := b8) (sl' := c8) (by omega) (by omega) ?_
      exact jp_wk (fun H h => PL.gs hE.2.2.2.1 hE.2.2.2.2 h) (kk σ' _ hE.2.2.1)
    · refine j_lconst (pc := 1824) (v := Int64.ofInt 1) dL_law_1824 rfl ?_
      refine j_goto (pc := 1825) (tgt := 1829) dL_law_1825 (by decide) ?_
      rw [show (iI res).toInt = 1 from by rw [show res = 1 from by omega]; rfl]
      refine j_lcmpE (pc := 1829) dL_law_1829 ?_
      refine j_if_eq (pc := 1830) (tgt := 1835) dL_law_1830 (by decide) (by decide) (fun c9 => ?_) (fun c9 => absurd rfl c9)
      refine j_goto (pc := 1835) (tgt := 2280) dL_law_1835 (by decide) ?_
      refine j_sub (lo' := [some (.ref b), some (.ref o), some (.ref mm), some (.ref ou), some (IV i), none, none]) ⟨Or.inr rfl, Or.inr rfl, Or.inr rfl, Or.inr rfl, Or.inr rfl, Or.inl rfl, Or.inl rfl, trivial⟩ ?_
      refine j_room (cl' := b8) (sl' := c8) (by omega) (by omega) ?_
      exact jp_wk (fun H h => PL.gs hE.2.2.2.1 hE.2.2.2.2 h) (kk σ' _ hE.2.2.1)

theorem md_yX0_numberOf : MD yX0_numberOf 4 := by decide +kernel
theorem md_yX2_numberOf : MD yX2_numberOf 2 := by decide +kernel
set_option maxHeartbeats 4000000 in
theorem lc_27 {Γ : GG} {K : KK} {l : Launch} {N0 N1 N3 o mm ou : Nat} {adm : Nat → Nat} {b LL : Nat} {xs : Nat → Int32} {QP : Option Value → (Heap → Prop) → Prop} {mc ms b8 c8 b9 c9 : Nat} (hfl : l.stackTraces = false) (L : Lie N0 N1 N3 o mm ou adm) (hW : Wd (GE Γ N3) (ACo N0 N1 N3) K) (hX : ∀ (s : State) (H : Heap), Γ.2.2 s H → va_X b LL xs s H) (hbA : ¬ Af N0 b) (hLL : LL ≤ 256) {σ : MM} {T : Nat} (hT : T < 64) (hI : Inv σ T) {w i : Int} (hi : 0 ≤ i ∧ i + 4 ≤ (LL : Int)) (hb : b8 + 300 ≤ b9) (hc : c8 + 36400 ≤ c9) (kk : ∀ (σ' : MM) (w' : Int), Inv σ' (T + 1) → J Γ (Af N0) RP l RX0 "law" cL_law 7 (some .boolean) [] 20 mc ms QP X0 b8 c8 (PL Γ K N0 N1 N3 o mm ou adm σ' σ' w') 2280 [some (.ref b), some (.ref o), some (.ref mm), some (.ref ou), some (IV i), none, none] []) : J Γ (Af N0) RP l RX0 "law" cL_law 7 (some .boolean) [] 20 mc ms QP X0 b9 c9 (PL Γ K N0 N1 N3 o mm ou adm σ σ w) 1838 [some (.ref b), some (.ref o), some (.ref mm), some (.ref ou), some (IV i), none, none] [] := by
  refine jp_wk (fun H h => PL.at0 h) ?_
  obtain ⟨p0, hp0⟩ : ∃ p : Int, p = (xs (i + 1).toNat).toInt := ⟨_, rfl⟩
  have r0 : RR p0 := by rw [hp0]; exact rrI _
  obtain ⟨p1, hp1⟩ : ∃ p : Int, p = (xs (i + 2).toNat).toInt := ⟨_, rfl⟩
  have r1 : RR p1 := by rw [hp1]; exact rrI _
  obtain ⟨t, res, fin, ht, hz, hC, hM⟩ := op_numberOf (l := l) hfl L hW hT hI p0 p1 r0 r1
  have hS9 : ∀ (c : Nat), c ≤ 36400 → c8 + c ≤ c9 := fun c h => by omega
  refine j_aload_n (pc := 1838) dL_law_1838 rfl ?_
  refine j_aload_n (pc := 1839) dL_law_1839 rfl ?_
  refine j_iload (pc := 1840) dL_law_1840 rfl ?_
  refine j_iconst (pc := 1842) dL_law_1842 rfl ?_
  refine j_iadd (pc := 1843) dL_law_1843 ?_
  refine j_sld (pc := 1844) hX hbA (by omega) (by omega) dL_law_1844 ?_
  rw [← hp0]
  refine j_aload_n (pc := 1845) dL_law_1845 rfl ?_
  refine j_iload (pc := 1846) dL_law_1846 rfl ?_
  refine j_iconst (pc := 1848) dL_law_1848 rfl ?_
  refine j_iadd (pc := 1849) dL_law_1849 ?_
  refine j_sld (pc := 1850) hX hbA (by omega) (by omega) dL_law_1850 ?_
  rw [← hp1]
  refine j_aload_n (pc := 1851) dL_law_1851 rfl ?_
  refine j_room (cl' := b8 + 8) (sl' := c8 + 30) (by omega) (hS9 30 (by decide)) ?_
  refine j_callSW (pc := 1852) (As := [.ref o, IV p0, IV p1, .ref ou]) (rest := []) (hC w) (lw_SW q1049 q1050 q43 q1051) md_yX0_numberOf (by decide) (by decide) rfl (Nat.le_of_ble_eq_true rfl) dL_law_1852 (fun v P hq => ?_)
  obtain ⟨w1, rfl, hw1, rfl⟩ := hq
  refine j_istore (pc := 1855) dL_law_1855 (by decide) (lo' := [some (.ref b), some (.ref o), some (.ref mm), some (.ref ou), some (IV i), some (IV t), none]) rfl ?_
  refine j_aload_n (pc := 1857) dL_law_1857 rfl ?_
  refine j_aload_n (pc := 1858) dL_law_1858 rfl ?_
  refine j_iload (pc := 1859) dL_law_1859 rfl ?_
  refine j_iconst (pc := 1861) dL_law_1861 rfl ?_
  refine j_iadd (pc := 1862) dL_law_1862 ?_
  refine j_sld (pc := 1863) hX hbA (by omega) (by omega) dL_law_1863 ?_
  rw [← hp0]
  refine j_aload_n (pc := 1864) dL_law_1864 rfl ?_
  refine j_iload (pc := 1865) dL_law_1865 rfl ?_
  refine j_iconst (pc := 1867) dL_law_1867 rfl ?_
  refine j_iadd (pc := 1868) dL_law_1868 ?_
  refine j_sld (pc := 1869) hX hbA (by omega) (by omega) dL_law_1869 ?_
  rw [← hp1]
  refine j_room (cl' := b8 + 0) (sl' := c8 + 0) (by omega) (by omega) ?_
  refine j_callV (pc := 1870) (As := [IV p0, IV p1]) (rest := []) (hM _ _) (lw_V q1714 q1715 q1716 q48 q1717) rfl md_yX2_numberOf PL.rcM (by decide) (by decide) rfl (Nat.le_of_ble_eq_true rfl) dL_law_1870 (fun v P hq => ?_)
  obtain ⟨r, σ', rfl, hE, rfl⟩ := hq
  refine j_istore (pc := 1873) dL_law_1873 (by decide) (lo' := [some (.ref b), some (.ref o), some (.ref mm), some (.ref ou), some (IV i), some (IV t), some (IV r)]) rfl ?_
  refine j_aload_n (pc := 1875) dL_law_1875 rfl ?_
  refine j_room (cl' := b8 + 0) (sl' := c8 + 0) (by omega) (by omega) ?_
  refine j_callV (pc := 1876) (As := []) (rest := []) (PL.ref L (m_thrown σ' hE.2.2.1.1.1)) (lw_V q1521 q1522 q1523 q48 q1524) rfl md_yX2_thrown PL.rcM (by decide) (by decide) rfl (Nat.le_of_ble_eq_true rfl) dL_law_1876 (fun v P hq => ?_)
  obtain ⟨r2', σ2, rfl, ⟨e1, e2⟩, rfl⟩ := hq
  rw [e2, e1, hE.2.1]
  refine j_iload (pc := 1879) dL_law_1879 rfl ?_
  refine j_icmp_eq (pc := 1881) (tgt := 1886) dL_law_1881 (by decide) (by omega) (by omega) (fun c => ?_) (fun c => absurd rfl c)
  refine j_iload (pc := 1886) dL_law_1886 rfl ?_
  refine j_if_ne (pc := 1888) (tgt := 1903) dL_law_1888 (by decide) (by omega) (fun c => ?_) (fun c => ?_)
  · refine j_goto (pc := 1903) (tgt := 2280) dL_law_1903 (by decide) ?_
    refine j_sub (lo' := [some (.ref b), some (.ref o), some (.ref mm), some (.ref ou), some (IV i), none, none]) ⟨Or.inr rfl, Or.inr rfl, Or.inr rfl, Or.inr rfl, Or.inr rfl, Or.inl rfl, Or.inl rfl, trivial⟩ ?_
    refine j_room (cl' := b8) (sl' := c8) (by omega) (by omega) ?_
    exact jp_wk (fun H h => PL.gs hE.2.2.2.1 hE.2.2.2.2 h) (kk σ' _ hE.2.2.1)
  · refine j_aload_n (pc := 1891) dL_law_1891 rfl ?_
    refine j_iconst (pc := 1892) dL_law_1892 rfl ?_
    refine jp_lald (pc := 1893) PL.cw dL_law_1893 ?_
    rw [hw1 c]
    refine j_iload (pc := 1894) dL_law_1894 rfl ?_
    rw [hE.1 c, IVw res]
    refine j_i2l (pc := 1896) dL_law_1896 (rrI _) ?_
    refine j_lcmpE (pc := 1897) dL_law_1897 ?_
    refine j_if_eq (pc := 1898) (tgt := 1903) dL_law_1898 (by decide) (by decide) (fun c9 => ?_) (fun c9 => absurd rfl c9)
    refine j_goto (pc := 1903) (tgt := 2280) dL_law_1903 (by decide) ?_
    refine j_sub (lo' := [some (.ref b), some (.ref o), some (.ref mm), some (.ref ou), some (IV i), none, none]) ⟨Or.inr rfl, Or.inr rfl, Or.inr rfl, Or.inr rfl, Or.inr rfl, Or.inl rfl, Or.inl rfl, trivial⟩ ?_
    refine j_room (cl' := b8) (sl' := c8) (by omega) (by omega) ?_
    exact jp_wk (fun H h => PL.gs hE.2.2.2.1 hE.2.2.2.2 h) (kk σ' _ hE.2.2.1)

theorem md_yX0_misread : MD yX0_misread 3 := by decide +kernel
theorem md_yX2_misread : MD yX2_misread 1 := by decide +kernel
set_option maxHeartbeats 4000000 in
theorem lc_28 {Γ : GG} {K : KK} {l : Launch} {N0 N1 N3 o mm ou : Nat} {adm : Nat → Nat} {b LL : Nat} {xs : Nat → Int32} {QP : Option Value → (Heap → Prop) → Prop} {mc ms b8 c8 b9 c9 : Nat} (hfl : l.stackTraces = false) (L : Lie N0 N1 N3 o mm ou adm) (hW : Wd (GE Γ N3) (ACo N0 N1 N3) K) (hX : ∀ (s : State) (H : Heap), Γ.2.2 s H → va_X b LL xs s H) (hbA : ¬ Af N0 b) (hLL : LL ≤ 256) {σ : MM} {T : Nat} (hT : T < 64) (hI : Inv σ T) {w i : Int} (hi : 0 ≤ i ∧ i + 4 ≤ (LL : Int)) (hb : b8 + 300 ≤ b9) (hc : c8 + 36400 ≤ c9) (kk : ∀ (σ' : MM) (w' : Int), Inv σ' (T + 1) → J Γ (Af N0) RP l RX0 "law" cL_law 7 (some .boolean) [] 20 mc ms QP X0 b8 c8 (PL Γ K N0 N1 N3 o mm ou adm σ' σ' w') 2280 [some (.ref b), some (.ref o), some (.ref mm), some (.ref ou), some (IV i), none, none] []) : J Γ (Af N0) RP l RX0 "law" cL_law 7 (some .boolean) [] 20 mc ms QP X0 b9 c9 (PL Γ K N0 N1 N3 o mm ou adm σ σ w) 1906 [some (.ref b), some (.ref o), some (.ref mm), some (.ref ou), some (IV i), none, none] [] := by
  refine jp_wk (fun H h => PL.at0 h) ?_
  obtain ⟨p0, hp0⟩ : ∃ p : Int, p = (xs (i + 1).toNat).toInt := ⟨_, rfl⟩
  have r0 : RR p0 := by rw [hp0]; exact rrI _
  obtain ⟨t, res, fin, ht, hz, hC, hM⟩ := op_misread (l := l) hfl L hW hT hI p0 r0
  have hS9 : ∀ (c : Nat), c ≤ 36400 → c8 + c ≤ c9 := fun c h => by omega
  refine j_aload_n (pc := 1906) dL_law_1906 rfl ?_
  refine j_aload_n (pc := 1907) dL_law_1907 rfl ?_
  refine j_iload (pc := 1908) dL_law_1908 rfl ?_
  refine j_iconst (pc := 1910) dL_law_1910 rfl ?_
  refine j_iadd (pc := 1911) dL_law_1911 ?_
  refine j_sld (pc := 1912) hX hbA (by omega) (by omega) dL_law_1912 ?_
  rw [← hp0]
  refine j_aload_n (pc := 1913) dL_law_1913 rfl ?_
  refine j_room (cl' := b8 + 10) (sl' := c8 + 40) (by omega) (hS9 40 (by decide)) ?_
  refine j_callSW (pc := 1914) (As := [.ref o, IV p0, .ref ou]) (rest := []) (hC w) (lw_SW q1056 q1057 q43 q1058) md_yX0_misread (by decide) (by decide) rfl (Nat.le_of_ble_eq_true rfl) dL_law_1914 (fun v P hq => ?_)
  obtain ⟨w1, rfl, hw1, rfl⟩ := hq
  refine j_istore (pc := 1917) dL_law_1917 (by decide) (lo' := [some (.ref b), some (.ref o), some (.ref mm), some (.ref ou), some (IV i), some (IV t), none]) rfl ?_
  refine j_aload_n (pc := 1919) dL_law_1919 rfl ?_
  refine j_aload_n (pc := 1920) dL_law_1920 rfl ?_
  refine j_iload (pc := 1921) dL_law_1921 rfl ?_
  refine j_iconst (pc := 1923) dL_law_1923 rfl ?_
  refine j_iadd (pc := 1924) dL_law_1924 ?_
  refine j_sld (pc := 1925) hX hbA (by omega) (by omega) dL_law_1925 ?_
  rw [← hp0]
  refine j_room (cl' := b8 + 0) (sl' := c8 + 0) (by omega) (by omega) ?_
  refine j_callV (pc := 1926) (As := [IV p0]) (rest := []) (hM _ _) (lw_V q1718 q1719 q1720 q48 q1721) rfl md_yX2_misread PL.rcM (by decide) (by decide) rfl (Nat.le_of_ble_eq_true rfl) dL_law_1926 (fun v P hq => ?_)
  obtain ⟨r, σ', rfl, hE, rfl⟩ := hq
  refine j_istore (pc := 1929) dL_law_1929 (by decide) (lo' := [some (.ref b), some (.ref o), some (.ref mm), some (.ref ou), some (IV i), some (IV t), some (IV r)]) rfl ?_
  refine j_aload_n (pc := 1931) dL_law_1931 rfl ?_
  refine j_room (cl' := b8 + 0) (sl' := c8 + 0) (by omega) (by omega) ?_
  refine j_callV (pc := 1932) (As := []) (rest := []) (PL.ref L (m_thrown σ' hE.2.2.1.1.1)) (lw_V q1521 q1522 q1523 q48 q1524) rfl md_yX2_thrown PL.rcM (by decide) (by decide) rfl (Nat.le_of_ble_eq_true rfl) dL_law_1932 (fun v P hq => ?_)
  obtain ⟨r2', σ2, rfl, ⟨e1, e2⟩, rfl⟩ := hq
  rw [e2, e1, hE.2.1]
  refine j_iload (pc := 1935) dL_law_1935 rfl ?_
  refine j_icmp_eq (pc := 1937) (tgt := 1942) dL_law_1937 (by decide) (by omega) (by omega) (fun c => ?_) (fun c => absurd rfl c)
  refine j_iload (pc := 1942) dL_law_1942 rfl ?_
  refine j_if_ne (pc := 1944) (tgt := 1959) dL_law_1944 (by decide) (by omega) (fun c => ?_) (fun c => ?_)
  · refine j_goto (pc := 1959) (tgt := 2280) dL_law_1959 (by decide) ?_
    refine j_sub (lo' := [some (.ref b), some (.ref o), some (.ref mm), some (.ref ou), some (IV i), none, none]) ⟨Or.inr rfl, Or.inr rfl, Or.inr rfl, Or.inr rfl, Or.inr rfl, Or.inl rfl, Or.inl rfl, trivial⟩ ?_
    refine j_room (cl' := b8) (sl' := c8) (by omega) (by omega) ?_
    exact jp_wk (fun H h => PL.gs hE.2.2.2.1 hE.2.2.2.2 h) (kk σ' _ hE.2.2.1)
  · refine j_aload_n (pc := 1947) dL_law_1947 rfl ?_
    refine j_iconst (pc := 1948) dL_law_1948 rfl ?_
    refine jp_lald (pc := 1949) PL.cw dL_law_1949 ?_
    rw [hw1 c]
    refine j_iload (pc := 1950) dL_law_1950 rfl ?_
    rw [hE.1 c, IVw res]
    refine j_i2l (pc := 1952) dL_law_1952 (rrI _) ?_
    refine j_lcmpE (pc := 1953) dL_law_1953 ?_
    refine j_if_eq (pc := 1954) (tgt := 1959) dL_law_1954 (by decide) (by decide) (fun c9 => ?_) (fun c9 => absurd rfl c9)
    refine j_goto (pc := 1959) (tgt := 2280) dL_law_1959 (by decide) ?_
    refine j_sub (lo' := [some (.ref b), some (.ref o), some (.ref mm), some (.ref ou), some (IV i), none, none]) ⟨Or.inr rfl, Or.inr rfl, Or.inr rfl, Or.inr rfl, Or.inr rfl, Or.inl rfl, Or.inl rfl, trivial⟩ ?_
    refine j_room (cl' := b8) (sl' := c8) (by omega) (by omega) ?_
    exact jp_wk (fun H h => PL.gs hE.2.2.2.1 hE.2.2.2.2 h) (kk σ' _ hE.2.2.1)

theorem md_yX0_votes : MD yX0_votes 3 := by decide +kernel
theorem md_yX2_votes : MD yX2_votes 1 := by decide +kernel
set_option maxHeartbeats 4000000 in
theorem lc_29 {Γ : GG} {K : KK} {l : Launch} {N0 N1 N3 o mm ou : Nat} {adm : Nat → Nat} {b LL : Nat} {xs : Nat → Int32} {QP : Option Value → (Heap → Prop) → Prop} {mc ms b8 c8 b9 c9 : Nat} (hfl : l.stackTraces = false) (L : Lie N0 N1 N3 o mm ou adm) (hW : Wd (GE Γ N3) (ACo N0 N1 N3) K) (hX : ∀ (s : State) (H : Heap), Γ.2.2 s H → va_X b LL xs s H) (hbA : ¬ Af N0 b) (hLL : LL ≤ 256) {σ : MM} {T : Nat} (hT : T < 64) (hI : Inv σ T) {w i : Int} (hi : 0 ≤ i ∧ i + 4 ≤ (LL : Int)) (hb : b8 + 300 ≤ b9) (hc : c8 + 36400 ≤ c9) (kk : ∀ (σ' : MM) (w' : Int), Inv σ' (T + 1) → J Γ (Af N0) RP l RX0 "law" cL_law 7 (some .boolean) [] 20 mc ms QP X0 b8 c8 (PL Γ K N0 N1 N3 o mm ou adm σ' σ' w') 2280 [some (.ref b), some (.ref o), some (.ref mm), some (.ref ou), some (IV i), none, none] []) : J Γ (Af N0) RP l RX0 "law" cL_law 7 (some .boolean) [] 20 mc ms QP X0 b9 c9 (PL Γ K N0 N1 N3 o mm ou adm σ σ w) 1962 [some (.ref b), some (.ref o), some (.ref mm), some (.ref ou), some (IV i), none, none] [] := by
  refine jp_wk (fun H h => PL.at0 h) ?_
  obtain ⟨p0, hp0⟩ : ∃ p : Int, p = (xs (i + 1).toNat).toInt := ⟨_, rfl⟩
  have r0 : RR p0 := by rw [hp0]; exact rrI _
  obtain ⟨t, res, fin, ht, hz, hC, hM⟩ := op_votes (l := l) hfl L hW hT hI p0 r0
  have hS9 : ∀ (c : Nat), c ≤ 36400 → c8 + c ≤ c9 := fun c h => by omega
  refine j_aload_n (pc := 1962) dL_law_1962 rfl ?_
  refine j_aload_n (pc := 1963) dL_law_1963 rfl ?_
  refine j_iload (pc := 1964) dL_law_1964 rfl ?_
  refine j_iconst (pc := 1966) dL_law_1966 rfl ?_
  refine j_iadd (pc := 1967) dL_law_1967 ?_
  refine j_sld (pc := 1968) hX hbA (by omega) (by omega) dL_law_1968 ?_
  rw [← hp0]
  refine j_aload_n (pc := 1969) dL_law_1969 rfl ?_
  refine j_room (cl' := b8 + 22) (sl' := c8 + 130) (by omega) (hS9 130 (by decide)) ?_
  refine j_callSW (pc := 1970) (As := [.ref o, IV p0, .ref ou]) (rest := []) (hC w) (lw_SW q1063 q1064 q43 q1065) md_yX0_votes (by decide) (by decide) rfl (Nat.le_of_ble_eq_true rfl) dL_law_1970 (fun v P hq => ?_)
  obtain ⟨w1, rfl, hw1, rfl⟩ := hq
  refine j_istore (pc := 1973) dL_law_1973 (by decide) (lo' := [some (.ref b), some (.ref o), some (.ref mm), some (.ref ou), some (IV i), some (IV t), none]) rfl ?_
  refine j_aload_n (pc := 1975) dL_law_1975 rfl ?_
  refine j_aload_n (pc := 1976) dL_law_1976 rfl ?_
  refine j_iload (pc := 1977) dL_law_1977 rfl ?_
  refine j_iconst (pc := 1979) dL_law_1979 rfl ?_
  refine j_iadd (pc := 1980) dL_law_1980 ?_
  refine j_sld (pc := 1981) hX hbA (by omega) (by omega) dL_law_1981 ?_
  rw [← hp0]
  refine j_room (cl' := b8 + 0) (sl' := c8 + 0) (by omega) (by omega) ?_
  refine j_callV (pc := 1982) (As := [IV p0]) (rest := []) (hM _ _) (lw_V q1726 q1727 q1728 q48 q1729) rfl md_yX2_votes PL.rcM (by decide) (by decide) rfl (Nat.le_of_ble_eq_true rfl) dL_law_1982 (fun v P hq => ?_)
  obtain ⟨r, σ', rfl, hE, rfl⟩ := hq
  refine j_istore (pc := 1985) dL_law_1985 (by decide) (lo' := [some (.ref b), some (.ref o), some (.ref mm), some (.ref ou), some (IV i), some (IV t), some (IV r)]) rfl ?_
  refine j_aload_n (pc := 1987) dL_law_1987 rfl ?_
  refine j_room (cl' := b8 + 0) (sl' := c8 + 0) (by omega) (by omega) ?_
  refine j_callV (pc := 1988) (As := []) (rest := []) (PL.ref L (m_thrown σ' hE.2.2.1.1.1)) (lw_V q1521 q1522 q1523 q48 q1524) rfl md_yX2_thrown PL.rcM (by decide) (by decide) rfl (Nat.le_of_ble_eq_true rfl) dL_law_1988 (fun v P hq => ?_)
  obtain ⟨r2', σ2, rfl, ⟨e1, e2⟩, rfl⟩ := hq
  rw [e2, e1, hE.2.1]
  refine j_iload (pc := 1991) dL_law_1991 rfl ?_
  refine j_icmp_eq (pc := 1993) (tgt := 1998) dL_law_1993 (by decide) (by omega) (by omega) (fun c => ?_) (fun c => absurd rfl c)
  refine j_iload (pc := 1998) dL_law_1998 rfl ?_
  refine j_if_ne (pc := 2000) (tgt := 2015) dL_law_2000 (by decide) (by omega) (fun c => ?_) (fun c => ?_)
  · refine j_goto (pc := 2015) (tgt := 2280) dL_law_2015 (by decide) ?_
    refine j_sub (lo' := [some (.ref b), some (.ref o), some (.ref mm), some (.ref ou), some (IV i), none, none]) ⟨Or.inr rfl, Or.inr rfl, Or.inr rfl, Or.inr rfl, Or.inr rfl, Or.inl rfl, Or.inl rfl, trivial⟩ ?_
    refine j_room (cl' := b8) (sl' := c8) (by omega) (by omega) ?_
    exact jp_wk (fun H h => PL.gs hE.2.2.2.1 hE.2.2.2.2 h) (kk σ' _ hE.2.2.1)
  · refine j_aload_n (pc := 2003) dL_law_2003 rfl ?_
    refine j_iconst (pc := 2004) dL_law_2004 rfl ?_
    refine jp_lald (pc := 2005) PL.cw dL_law_2005 ?_
    rw [hw1 c]
    refine j_iload (pc := 2006) dL_law_2006 rfl ?_
    rw [hE.1 c, IVw res]
    refine j_i2l (pc := 2008) dL_law_2008 (rrI _) ?_
    refine j_lcmpE (pc := 2009) dL_law_2009 ?_
    refine j_if_eq (pc := 2010) (tgt := 2015) dL_law_2010 (by decide) (by decide) (fun c9 => ?_) (fun c9 => absurd rfl c9)
    refine j_goto (pc := 2015) (tgt := 2280) dL_law_2015 (by decide) ?_
    refine j_sub (lo' := [some (.ref b), some (.ref o), some (.ref mm), some (.ref ou), some (IV i), none, none]) ⟨Or.inr rfl, Or.inr rfl, Or.inr rfl, Or.inr rfl, Or.inr rfl, Or.inl rfl, Or.inl rfl, trivial⟩ ?_
    refine j_room (cl' := b8) (sl' := c8) (by omega) (by omega) ?_
    exact jp_wk (fun H h => PL.gs hE.2.2.2.1 hE.2.2.2.2 h) (kk σ' _ hE.2.2.1)

theorem md_yX0_seats : MD yX0_seats 3 := by decide +kernel
theorem md_yX2_seats : MD yX2_seats 1 := by decide +kernel
set_option maxHeartbeats 4000000 in
theorem lc_30 {Γ : GG} {K : KK} {l : Launch} {N0 N1 N3 o mm ou : Nat} {adm : Nat → Nat} {b LL : Nat} {xs : Nat → Int32} {QP : Option Value → (Heap → Prop) → Prop} {mc ms b8 c8 b9 c9 : Nat} (hfl : l.stackTraces = false) (L : Lie N0 N1 N3 o mm ou adm) (hW : Wd (GE Γ N3) (ACo N0 N1 N3) K) (hX : ∀ (s : State) (H : Heap), Γ.2.2 s H → va_X b LL xs s H) (hbA : ¬ Af N0 b) (hLL : LL ≤ 256) {σ : MM} {T : Nat} (hT : T < 64) (hI : Inv σ T) {w i : Int} (hi : 0 ≤ i ∧ i + 4 ≤ (LL : Int)) (hb : b8 + 300 ≤ b9) (hc : c8 + 36400 ≤ c9) (kk : ∀ (σ' : MM) (w' : Int), Inv σ' (T + 1) → J Γ (Af N0) RP l RX0 "law" cL_law 7 (some .boolean) [] 20 mc ms QP X0 b8 c8 (PL Γ K N0 N1 N3 o mm ou adm σ' σ' w') 2280 [some (.ref b), some (.ref o), some (.ref mm), some (.ref ou), some (IV i), none, none] []) : J Γ (Af N0) RP l RX0 "law" cL_law 7 (some .boolean) [] 20 mc ms QP X0 b9 c9 (PL Γ K N0 N1 N3 o mm ou adm σ σ w) 2018 [some (.ref b), some (.ref o), some (.ref mm), some (.ref ou), some (IV i), none, none] [] := by
  refine jp_wk (fun H h => PL.at0 h) ?_
  obtain ⟨p0, hp0⟩ : ∃ p : Int, p = (xs (i + 1).toNat).toInt := ⟨_, rfl⟩
  have r0 : RR p0 := by rw [hp0]; exact rrI _
  obtain ⟨t, res, fin, ht, hz, hC, hM⟩ := op_seats (l := l) hfl L hW hT hI p0 r0
  have hS9 : ∀ (c : Nat), c ≤ 36400 → c8 + c ≤ c9 := fun c h => by omega
  refine j_aload_n (pc := 2018) dL_law_2018 rfl ?_
  refine j_aload_n (pc := 2019) dL_law_2019 rfl ?_
  refine j_iload (pc := 2020) dL_law_2020 rfl ?_
  refine j_iconst (pc := 2022) dL_law_2022 rfl ?_
  refine j_iadd (pc := 2023) dL_law_2023 ?_
  refine j_sld (pc := 2024) hX hbA (by omega) (by omega) dL_law_2024 ?_
  rw [← hp0]
  refine j_aload_n (pc := 2025) dL_law_2025 rfl ?_
  refine j_room (cl' := b8 + 22) (sl' := c8 + 130) (by omega) (hS9 130 (by decide)) ?_
  refine j_callSW (pc := 2026) (As := [.ref o, IV p0, .ref ou]) (rest := []) (hC w) (lw_SW q1070 q1071 q43 q1072) md_yX0_seats (by decide) (by decide) rfl (Nat.le_of_ble_eq_true rfl) dL_law_2026 (fun v P hq => ?_)
  obtain ⟨w1, rfl, hw1, rfl⟩ := hq
  refine j_istore (pc := 2029) dL_law_2029 (by decide) (lo' := [some (.ref b), some (.ref o), some (.ref mm), some (.ref ou), some (IV i), some (IV t), none]) rfl ?_
  refine j_aload_n (pc := 2031) dL_law_2031 rfl ?_
  refine j_aload_n (pc := 2032) dL_law_2032 rfl ?_
  refine j_iload (pc := 2033) dL_law_2033 rfl ?_
  refine j_iconst (pc := 2035) dL_law_2035 rfl ?_
  refine j_iadd (pc := 2036) dL_law_2036 ?_
  refine j_sld (pc := 2037) hX hbA (by omega) (by omega) dL_law_2037 ?_
  rw [← hp0]
  refine j_room (cl' := b8 + 0) (sl' := c8 + 0) (by omega) (by omega) ?_
  refine j_callV (pc := 2038) (As := [IV p0]) (rest := []) (hM _ _) (lw_V q1750 q1751 q1752 q48 q1753) rfl md_yX2_seats PL.rcM (by decide) (by decide) rfl (Nat.le_of_ble_eq_true rfl) dL_law_2038 (fun v P hq => ?_)
  obtain ⟨r, σ', rfl, hE, rfl⟩ := hq
  refine j_istore (pc := 2041) dL_law_2041 (by decide) (lo' := [some (.ref b), some (.ref o), some (.ref mm), some (.ref ou), some (IV i), some (IV t), some (IV r)]) rfl ?_
  refine j_aload_n (pc := 2043) dL_law_2043 rfl ?_
  refine j_room (cl' := b8 + 0) (sl' := c8 + 0) (by omega) (by omega) ?_
  refine j_callV (pc := 2044) (As := []) (rest := []) (PL.ref L (m_thrown σ' hE.2.2.1.1.1)) (lw_V q1521 q1522 q1523 q48 q1524) rfl md_yX2_thrown PL.rcM (by decide) (by decide) rfl (Nat.le_of_ble_eq_true rfl) dL_law_2044 (fun v P hq => ?_)
  obtain ⟨r2', σ2, rfl, ⟨e1, e2⟩, rfl⟩ := hq
  rw [e2, e1, hE.2.1]
  refine j_iload (pc := 2047) dL_law_2047 rfl ?_
  refine j_icmp_eq (pc := 2049) (tgt := 2054) dL_law_2049 (by decide) (by omega) (by omega) (fun c => ?_) (fun c => absurd rfl c)
  refine j_iload (pc := 2054) dL_law_2054 rfl ?_
  refine j_if_ne (pc := 2056) (tgt := 2071) dL_law_2056 (by decide) (by omega) (fun c => ?_) (fun c => ?_)
  · refine j_goto (pc := 2071) (tgt := 2280) dL_law_2071 (by decide) ?_
    refine j_sub (lo' := [some (.ref b), some (.ref o), some (.ref mm), some (.ref ou), some (IV i), none, none]) ⟨Or.inr rfl, Or.inr rfl, Or.inr rfl, Or.inr rfl, Or.inr rfl, Or.inl rfl, Or.inl rfl, trivial⟩ ?_
    refine j_room (cl' := b8) (sl' := c8) (by omega) (by omega) ?_
    exact jp_wk (fun H h => PL.gs hE.2.2.2.1 hE.2.2.2.2 h) (kk σ' _ hE.2.2.1)
  · refine j_aload_n (pc := 2059) dL_law_2059 rfl ?_
    refine j_iconst (pc := 2060) dL_law_2060 rfl ?_
    refine jp_lald (pc := 2061) PL.cw dL_law_2061 ?_
    rw [hw1 c]
    refine j_iload (pc := 2062) dL_law_2062 rfl ?_
    rw [hE.1 c, IVw res]
    refine j_i2l (pc := 2064) dL_law_2064 (rrI _) ?_
    refine j_lcmpE (pc := 2065) dL_law_2065 ?_
    refine j_if_eq (pc := 2066) (tgt := 2071) dL_law_2066 (by decide) (by decide) (fun c9 => ?_) (fun c9 => absurd rfl c9)
    refine j_goto (pc := 2071) (tgt := 2280) dL_law_2071 (by decide) ?_
    refine j_sub (lo' := [some (.ref b), some (.ref o), some (.ref mm), some (.ref ou), some (IV i), none, none]) ⟨Or.inr rfl, Or.inr rfl, Or.inr rfl, Or.inr rfl, Or.inr rfl, Or.inl rfl, Or.inl rfl, trivial⟩ ?_
    refine j_room (cl' := b8) (sl' := c8) (by omega) (by omega) ?_
    exact jp_wk (fun H h => PL.gs hE.2.2.2.1 hE.2.2.2.2 h) (kk σ' _ hE.2.2.1)

theorem md_yX0_seatAt : MD yX0_seatAt 3 := by decide +kernel
theorem md_yX2_seatAt : MD yX2_seatAt 1 := by decide +kernel
set_option maxHeartbeats 4000000 in
theorem lc_31 {Γ : GG} {K : KK} {l : Launch} {N0 N1 N3 o mm ou : Nat} {adm : Nat → Nat} {b LL : Nat} {xs : Nat → Int32} {QP : Option Value → (Heap → Prop) → Prop} {mc ms b8 c8 b9 c9 : Nat} (hfl : l.stackTraces = false) (L : Lie N0 N1 N3 o mm ou adm) (hW : Wd (GE Γ N3) (ACo N0 N1 N3) K) (hX : ∀ (s : State) (H : Heap), Γ.2.2 s H → va_X b LL xs s H) (hbA : ¬ Af N0 b) (hLL : LL ≤ 256) {σ : MM} {T : Nat} (hT : T < 64) (hI : Inv σ T) {w i : Int} (hi : 0 ≤ i ∧ i + 4 ≤ (LL : Int)) (hb : b8 + 300 ≤ b9) (hc : c8 + 36400 ≤ c9) (kk : ∀ (σ' : MM) (w' : Int), Inv σ' (T + 1) → J Γ (Af N0) RP l RX0 "law" cL_law 7 (some .boolean) [] 20 mc ms QP X0 b8 c8 (PL Γ K N0 N1 N3 o mm ou adm σ' σ' w') 2280 [some (.ref b), some (.ref o), some (.ref mm), some (.ref ou), some (IV i), none, none] []) : J Γ (Af N0) RP l RX0 "law" cL_law 7 (some .boolean) [] 20 mc ms QP X0 b9 c9 (PL Γ K N0 N1 N3 o mm ou adm σ σ w) 2074 [some (.ref b), some (.ref o), some (.ref mm), some (.ref ou), some (IV i), none, none] [] := by
  refine jp_wk (fun H h => PL.at0 h) ?_
  obtain ⟨p0, hp0⟩ : ∃ p : Int, p = (xs (i + 1).toNat).toInt := ⟨_, rfl⟩
  have r0 : RR p0 := by rw [hp0]; exact rrI _
  obtain ⟨t, res, fin, ht, hz, hC, hM⟩ := op_seatAt (l := l) hfl L hW hT hI p0 r0
  have hS9 : ∀ (c : Nat), c ≤ 36400 → c8 + c ≤ c9 := fun c h => by omega
  refine j_aload_n (pc := 2074) dL_law_2074 rfl ?_
  refine j_aload_n (pc := 2075) dL_law_2075 rfl ?_
  refine j_iload (pc := 2076) dL_law_2076 rfl ?_
  refine j_iconst (pc := 2078) dL_law_2078 rfl ?_
  refine j_iadd (pc := 2079) dL_law_2079 ?_
  refine j_sld (pc := 2080) hX hbA (by omega) (by omega) dL_law_2080 ?_
  rw [← hp0]
  refine j_aload_n (pc := 2081) dL_law_2081 rfl ?_
  refine j_room (cl' := b8 + 22) (sl' := c8 + 130) (by omega) (hS9 130 (by decide)) ?_
  refine j_callSW (pc := 2082) (As := [.ref o, IV p0, .ref ou]) (rest := []) (hC w) (lw_SW q1077 q1078 q43 q1079) md_yX0_seatAt (by decide) (by decide) rfl (Nat.le_of_ble_eq_true rfl) dL_law_2082 (fun v P hq => ?_)
  obtain ⟨w1, rfl, hw1, rfl⟩ := hq
  refine j_istore (pc := 2085) dL_law_2085 (by decide) (lo' := [some (.ref b), some (.ref o), some (.ref mm), some (.ref ou), some (IV i), some (IV t), none]) rfl ?_
  refine j_aload_n (pc := 2087) dL_law_2087 rfl ?_
  refine j_aload_n (pc := 2088) dL_law_2088 rfl ?_
  refine j_iload (pc := 2089) dL_law_2089 rfl ?_
  refine j_iconst (pc := 2091) dL_law_2091 rfl ?_
  refine j_iadd (pc := 2092) dL_law_2092 ?_
  refine j_sld (pc := 2093) hX hbA (by omega) (by omega) dL_law_2093 ?_
  rw [← hp0]
  refine j_room (cl' := b8 + 0) (sl' := c8 + 0) (by omega) (by omega) ?_
  refine j_callV (pc := 2094) (As := [IV p0]) (rest := []) (hM _ _) (lw_V q1754 q1755 q1756 q48 q1757) rfl md_yX2_seatAt PL.rcM (by decide) (by decide) rfl (Nat.le_of_ble_eq_true rfl) dL_law_2094 (fun v P hq => ?_)
  obtain ⟨r, σ', rfl, hE, rfl⟩ := hq
  refine j_istore (pc := 2097) dL_law_2097 (by decide) (lo' := [some (.ref b), some (.ref o), some (.ref mm), some (.ref ou), some (IV i), some (IV t), some (IV r)]) rfl ?_
  refine j_aload_n (pc := 2099) dL_law_2099 rfl ?_
  refine j_room (cl' := b8 + 0) (sl' := c8 + 0) (by omega) (by omega) ?_
  refine j_callV (pc := 2100) (As := []) (rest := []) (PL.ref L (m_thrown σ' hE.2.2.1.1.1)) (lw_V q1521 q1522 q1523 q48 q1524) rfl md_yX2_thrown PL.rcM (by decide) (by decide) rfl (Nat.le_of_ble_eq_true rfl) dL_law_2100 (fun v P hq => ?_)
  obtain ⟨r2', σ2, rfl, ⟨e1, e2⟩, rfl⟩ := hq
  rw [e2, e1, hE.2.1]
  refine j_iload (pc := 2103) dL_law_2103 rfl ?_
  refine j_icmp_eq (pc := 2105) (tgt := 2110) dL_law_2105 (by decide) (by omega) (by omega) (fun c => ?_) (fun c => absurd rfl c)
  refine j_iload (pc := 2110) dL_law_2110 rfl ?_
  refine j_if_ne (pc := 2112) (tgt := 2127) dL_law_2112 (by decide) (by omega) (fun c => ?_) (fun c => ?_)
  · refine j_goto (pc := 2127) (tgt := 2280) dL_law_2127 (by decide) ?_
    refine j_sub (lo' := [some (.ref b), some (.ref o), some (.ref mm), some (.ref ou), some (IV i), none, none]) ⟨Or.inr rfl, Or.inr rfl, Or.inr rfl, Or.inr rfl, Or.inr rfl, Or.inl rfl, Or.inl rfl, trivial⟩ ?_
    refine j_room (cl' := b8) (sl' := c8) (by omega) (by omega) ?_
    exact jp_wk (fun H h => PL.gs hE.2.2.2.1 hE.2.2.2.2 h) (kk σ' _ hE.2.2.1)
  · refine j_aload_n (pc := 2115) dL_law_2115 rfl ?_
    refine j_iconst (pc := 2116) dL_law_2116 rfl ?_
    refine jp_lald (pc := 2117) PL.cw dL_law_2117 ?_
    rw [hw1 c]
    refine j_iload (pc := 2118) dL_law_2118 rfl ?_
    rw [hE.1 c, IVw res]
    refine j_i2l (pc := 2120) dL_law_2120 (rrI _) ?_
    refine j_lcmpE (pc := 2121) dL_law_2121 ?_
    refine j_if_eq (pc := 2122) (tgt := 2127) dL_law_2122 (by decide) (by decide) (fun c9 => ?_) (fun c9 => absurd rfl c9)
    refine j_goto (pc := 2127) (tgt := 2280) dL_law_2127 (by decide) ?_
    refine j_sub (lo' := [some (.ref b), some (.ref o), some (.ref mm), some (.ref ou), some (IV i), none, none]) ⟨Or.inr rfl, Or.inr rfl, Or.inr rfl, Or.inr rfl, Or.inr rfl, Or.inl rfl, Or.inl rfl, trivial⟩ ?_
    refine j_room (cl' := b8) (sl' := c8) (by omega) (by omega) ?_
    exact jp_wk (fun H h => PL.gs hE.2.2.2.1 hE.2.2.2.2 h) (kk σ' _ hE.2.2.1)

theorem md_yX1_lots : MD yX1_lots 0 := by decide +kernel
theorem md_yX2_lots : MD yX2_lots 0 := by decide +kernel
set_option maxHeartbeats 4000000 in
theorem lc_32 {Γ : GG} {K : KK} {l : Launch} {N0 N1 N3 o mm ou : Nat} {adm : Nat → Nat} {b LL : Nat} {xs : Nat → Int32} {QP : Option Value → (Heap → Prop) → Prop} {mc ms b8 c8 b9 c9 : Nat} (hfl : l.stackTraces = false) (L : Lie N0 N1 N3 o mm ou adm) (hW : Wd (GE Γ N3) (ACo N0 N1 N3) K) (hX : ∀ (s : State) (H : Heap), Γ.2.2 s H → va_X b LL xs s H) (hbA : ¬ Af N0 b) (hLL : LL ≤ 256) {σ : MM} {T : Nat} (hT : T < 64) (hI : Inv σ T) {w i : Int} (hi : 0 ≤ i ∧ i + 4 ≤ (LL : Int)) (hb : b8 + 300 ≤ b9) (hc : c8 + 36400 ≤ c9) (kk : ∀ (σ' : MM) (w' : Int), Inv σ' (T + 1) → J Γ (Af N0) RP l RX0 "law" cL_law 7 (some .boolean) [] 20 mc ms QP X0 b8 c8 (PL Γ K N0 N1 N3 o mm ou adm σ' σ' w') 2280 [some (.ref b), some (.ref o), some (.ref mm), some (.ref ou), some (IV i), none, none] []) : J Γ (Af N0) RP l RX0 "law" cL_law 7 (some .boolean) [] 20 mc ms QP X0 b9 c9 (PL Γ K N0 N1 N3 o mm ou adm σ σ w) 2130 [some (.ref b), some (.ref o), some (.ref mm), some (.ref ou), some (IV i), none, none] [] := by
  refine jp_wk (fun H h => PL.at0 h) ?_
  obtain ⟨res, hC, hM⟩ := od_lots (l := l) L hW hI
  refine j_aload_n (pc := 2130) dL_law_2130 rfl ?_
  refine j_room (cl' := b8 + 22) (sl' := c8 + 130) (by omega) (by omega) ?_
  refine j_callV (pc := 2131) (As := []) (rest := []) (hC w) (lw_V q164 q165 q166 q44 q167) rfl md_yX1_lots PL.rcC (by decide) (by decide) rfl (Nat.le_of_ble_eq_true rfl) dL_law_2131 (fun v P hq => ?_)
  obtain ⟨rfl, rfl⟩ := hq
  refine j_aload_n (pc := 2134) dL_law_2134 rfl ?_
  refine j_room (cl' := b8 + 0) (sl' := c8 + 0) (by omega) (by omega) ?_
  refine j_callV (pc := 2135) (As := []) (rest := [IV res]) (hM w) (lw_V q1758 q1759 q1760 q48 q1761) rfl md_yX2_lots PL.rcM (by decide) (by decide) rfl (Nat.le_of_ble_eq_true rfl) dL_law_2135 (fun v P hq => ?_)
  obtain ⟨r, σ', rfl, hE, rfl⟩ := hq
  rw [hE.1 rfl, IVw res]
  refine j_icmp_eq (pc := 2138) (tgt := 2280) dL_law_2138 (by decide) (rrI _) (rrI _) (fun c => ?_) (fun c => absurd rfl c)
  refine j_sub (lo' := [some (.ref b), some (.ref o), some (.ref mm), some (.ref ou), some (IV i), none, none]) ⟨Or.inr rfl, Or.inr rfl, Or.inr rfl, Or.inr rfl, Or.inr rfl, Or.inr rfl, Or.inr rfl, trivial⟩ ?_
  refine j_room (cl' := b8) (sl' := c8) (by omega) (by omega) ?_
  exact jp_wk (fun H h => PL.gs hE.2.2.2.1 hE.2.2.2.2 h) (kk σ' _ hE.2.2.1)

theorem md_yX0_seatsByBallots : MD yX0_seatsByBallots 3 := by decide +kernel
theorem md_yX2_seatsByBallots : MD yX2_seatsByBallots 1 := by decide +kernel
set_option maxHeartbeats 4000000 in
theorem lc_33 {Γ : GG} {K : KK} {l : Launch} {N0 N1 N3 o mm ou : Nat} {adm : Nat → Nat} {b LL : Nat} {xs : Nat → Int32} {QP : Option Value → (Heap → Prop) → Prop} {mc ms b8 c8 b9 c9 : Nat} (hfl : l.stackTraces = false) (L : Lie N0 N1 N3 o mm ou adm) (hW : Wd (GE Γ N3) (ACo N0 N1 N3) K) (hX : ∀ (s : State) (H : Heap), Γ.2.2 s H → va_X b LL xs s H) (hbA : ¬ Af N0 b) (hLL : LL ≤ 256) {σ : MM} {T : Nat} (hT : T < 64) (hI : Inv σ T) {w i : Int} (hi : 0 ≤ i ∧ i + 4 ≤ (LL : Int)) (hb : b8 + 300 ≤ b9) (hc : c8 + 36400 ≤ c9) (kk : ∀ (σ' : MM) (w' : Int), Inv σ' (T + 1) → J Γ (Af N0) RP l RX0 "law" cL_law 7 (some .boolean) [] 20 mc ms QP X0 b8 c8 (PL Γ K N0 N1 N3 o mm ou adm σ' σ' w') 2280 [some (.ref b), some (.ref o), some (.ref mm), some (.ref ou), some (IV i), none, none] []) : J Γ (Af N0) RP l RX0 "law" cL_law 7 (some .boolean) [] 20 mc ms QP X0 b9 c9 (PL Γ K N0 N1 N3 o mm ou adm σ σ w) 2143 [some (.ref b), some (.ref o), some (.ref mm), some (.ref ou), some (IV i), none, none] [] := by
  refine jp_wk (fun H h => PL.at0 h) ?_
  obtain ⟨p0, hp0⟩ : ∃ p : Int, p = (xs (i + 1).toNat).toInt := ⟨_, rfl⟩
  have r0 : RR p0 := by rw [hp0]; exact rrI _
  obtain ⟨t, res, fin, ht, hz, hC, hM⟩ := op_seatsByBallots (l := l) hfl L hW hT hI p0 r0
  have hS9 : ∀ (c : Nat), c ≤ 36400 → c8 + c ≤ c9 := fun c h => by omega
  refine j_aload_n (pc := 2143) dL_law_2143 rfl ?_
  refine j_aload_n (pc := 2144) dL_law_2144 rfl ?_
  refine j_iload (pc := 2145) dL_law_2145 rfl ?_
  refine j_iconst (pc := 2147) dL_law_2147 rfl ?_
  refine j_iadd (pc := 2148) dL_law_2148 ?_
  refine j_sld (pc := 2149) hX hbA (by omega) (by omega) dL_law_2149 ?_
  rw [← hp0]
  refine j_aload_n (pc := 2150) dL_law_2150 rfl ?_
  refine j_room (cl' := b8 + 22) (sl' := c8 + 130) (by omega) (hS9 130 (by decide)) ?_
  refine j_callSW (pc := 2151) (As := [.ref o, IV p0, .ref ou]) (rest := []) (hC w) (lw_SW q1084 q1085 q43 q1086) md_yX0_seatsByBallots (by decide) (by decide) rfl (Nat.le_of_ble_eq_true rfl) dL_law_2151 (fun v P hq => ?_)
  obtain ⟨w1, rfl, hw1, rfl⟩ := hq
  refine j_istore (pc := 2154) dL_law_2154 (by decide) (lo' := [some (.ref b), some (.ref o), some (.ref mm), some (.ref ou), some (IV i), some (IV t), none]) rfl ?_
  refine j_aload_n (pc := 2156) dL_law_2156 rfl ?_
  refine j_aload_n (pc := 2157) dL_law_2157 rfl ?_
  refine j_iload (pc := 2158) dL_law_2158 rfl ?_
  refine j_iconst (pc := 2160) dL_law_2160 rfl ?_
  refine j_iadd (pc := 2161) dL_law_2161 ?_
  refine j_sld (pc := 2162) hX hbA (by omega) (by omega) dL_law_2162 ?_
  rw [← hp0]
  refine j_room (cl' := b8 + 0) (sl' := c8 + 0) (by omega) (by omega) ?_
  refine j_callV (pc := 2163) (As := [IV p0]) (rest := []) (hM _ _) (lw_V q1762 q1763 q1764 q48 q1765) rfl md_yX2_seatsByBallots PL.rcM (by decide) (by decide) rfl (Nat.le_of_ble_eq_true rfl) dL_law_2163 (fun v P hq => ?_)
  obtain ⟨r, σ', rfl, hE, rfl⟩ := hq
  refine j_istore (pc := 2166) dL_law_2166 (by decide) (lo' := [some (.ref b), some (.ref o), some (.ref mm), some (.ref ou), some (IV i), some (IV t), some (IV r)]) rfl ?_
  refine j_aload_n (pc := 2168) dL_law_2168 rfl ?_
  refine j_room (cl' := b8 + 0) (sl' := c8 + 0) (by omega) (by omega) ?_
  refine j_callV (pc := 2169) (As := []) (rest := []) (PL.ref L (m_thrown σ' hE.2.2.1.1.1)) (lw_V q1521 q1522 q1523 q48 q1524) rfl md_yX2_thrown PL.rcM (by decide) (by decide) rfl (Nat.le_of_ble_eq_true rfl) dL_law_2169 (fun v P hq => ?_)
  obtain ⟨r2', σ2, rfl, ⟨e1, e2⟩, rfl⟩ := hq
  rw [e2, e1, hE.2.1]
  refine j_iload (pc := 2172) dL_law_2172 rfl ?_
  refine j_icmp_eq (pc := 2174) (tgt := 2179) dL_law_2174 (by decide) (by omega) (by omega) (fun c => ?_) (fun c => absurd rfl c)
  refine j_iload (pc := 2179) dL_law_2179 rfl ?_
  refine j_if_ne (pc := 2181) (tgt := 2196) dL_law_2181 (by decide) (by omega) (fun c => ?_) (fun c => ?_)
  · refine j_goto (pc := 2196) (tgt := 2280) dL_law_2196 (by decide) ?_
    refine j_sub (lo' := [some (.ref b), some (.ref o), some (.ref mm), some (.ref ou), some (IV i), none, none]) ⟨Or.inr rfl, Or.inr rfl, Or.inr rfl, Or.inr rfl, Or.inr rfl, Or.inl rfl, Or.inl rfl, trivial⟩ ?_
    refine j_room (cl' := b8) (sl' := c8) (by omega) (by omega) ?_
    exact jp_wk (fun H h => PL.gs hE.2.2.2.1 hE.2.2.2.2 h) (kk σ' _ hE.2.2.1)
  · refine j_aload_n (pc := 2184) dL_law_2184 rfl ?_
    refine j_iconst (pc := 2185) dL_law_2185 rfl ?_
    refine jp_lald (pc := 2186) PL.cw dL_law_2186 ?_
    rw [hw1 c]
    refine j_iload (pc := 2187) dL_law_2187 rfl ?_
    rw [hE.1 c, IVw res]
    refine j_i2l (pc := 2189) dL_law_2189 (rrI _) ?_
    refine j_lcmpE (pc := 2190) dL_law_2190 ?_
    refine j_if_eq (pc := 2191) (tgt := 2196) dL_law_2191 (by decide) (by decide) (fun c9 => ?_) (fun c9 => absurd rfl c9)
    refine j_goto (pc := 2196) (tgt := 2280) dL_law_2196 (by decide) ?_
    refine j_sub (lo' := [some (.ref b), some (.ref o), some (.ref mm), some (.ref ou), some (IV i), none, none]) ⟨Or.inr rfl, Or.inr rfl, Or.inr rfl, Or.inr rfl, Or.inr rfl, Or.inl rfl, Or.inl rfl, trivial⟩ ?_
    refine j_room (cl' := b8) (sl' := c8) (by omega) (by omega) ?_
    exact jp_wk (fun H h => PL.gs hE.2.2.2.1 hE.2.2.2.2 h) (kk σ' _ hE.2.2.1)

theorem md_yX1_notes : MD yX1_notes 0 := by decide +kernel
theorem md_yX2_notes_2 : MD yX2_notes_2 0 := by decide +kernel
set_option maxHeartbeats 4000000 in
theorem lc_34 {Γ : GG} {K : KK} {l : Launch} {N0 N1 N3 o mm ou : Nat} {adm : Nat → Nat} {b LL : Nat} {xs : Nat → Int32} {QP : Option Value → (Heap → Prop) → Prop} {mc ms b8 c8 b9 c9 : Nat} (hfl : l.stackTraces = false) (L : Lie N0 N1 N3 o mm ou adm) (hW : Wd (GE Γ N3) (ACo N0 N1 N3) K) (hX : ∀ (s : State) (H : Heap), Γ.2.2 s H → va_X b LL xs s H) (hbA : ¬ Af N0 b) (hLL : LL ≤ 256) {σ : MM} {T : Nat} (hT : T < 64) (hI : Inv σ T) {w i : Int} (hi : 0 ≤ i ∧ i + 4 ≤ (LL : Int)) (hb : b8 + 300 ≤ b9) (hc : c8 + 36400 ≤ c9) (kk : ∀ (σ' : MM) (w' : Int), Inv σ' (T + 1) → J Γ (Af N0) RP l RX0 "law" cL_law 7 (some .boolean) [] 20 mc ms QP X0 b8 c8 (PL Γ K N0 N1 N3 o mm ou adm σ' σ' w') 2280 [some (.ref b), some (.ref o), some (.ref mm), some (.ref ou), some (IV i), none, none] []) : J Γ (Af N0) RP l RX0 "law" cL_law 7 (some .boolean) [] 20 mc ms QP X0 b9 c9 (PL Γ K N0 N1 N3 o mm ou adm σ σ w) 2199 [some (.ref b), some (.ref o), some (.ref mm), some (.ref ou), some (IV i), none, none] [] := by
  refine jp_wk (fun H h => PL.at0 h) ?_
  obtain ⟨res, hC, hM⟩ := od_notes (l := l) L hW hI
  refine j_aload_n (pc := 2199) dL_law_2199 rfl ?_
  refine j_room (cl' := b8 + 0) (sl' := c8 + 0) (by omega) (by omega) ?_
  refine j_callV (pc := 2200) (As := []) (rest := []) (hC w) (lw_V q281 q282 q283 q44 q284) rfl md_yX1_notes PL.rcC (by decide) (by decide) rfl (Nat.le_of_ble_eq_true rfl) dL_law_2200 (fun v P hq => ?_)
  obtain ⟨rfl, rfl⟩ := hq
  refine j_aload_n (pc := 2203) dL_law_2203 rfl ?_
  refine j_room (cl' := b8 + 0) (sl' := c8 + 0) (by omega) (by omega) ?_
  refine j_callV (pc := 2204) (As := []) (rest := [IV res]) (hM w) (lw_V q1766 q1767 q1768 q48 q1769) rfl md_yX2_notes_2 PL.rcM (by decide) (by decide) rfl (Nat.le_of_ble_eq_true rfl) dL_law_2204 (fun v P hq => ?_)
  obtain ⟨r, σ', rfl, hE, rfl⟩ := hq
  rw [hE.1 rfl, IVw res]
  refine j_icmp_eq (pc := 2207) (tgt := 2280) dL_law_2207 (by decide) (rrI _) (rrI _) (fun c => ?_) (fun c => absurd rfl c)
  refine j_sub (lo' := [some (.ref b), some (.ref o), some (.ref mm), some (.ref ou), some (IV i), none, none]) ⟨Or.inr rfl, Or.inr rfl, Or.inr rfl, Or.inr rfl, Or.inr rfl, Or.inr rfl, Or.inr rfl, trivial⟩ ?_
  refine j_room (cl' := b8) (sl' := c8) (by omega) (by omega) ?_
  exact jp_wk (fun H h => PL.gs hE.2.2.2.1 hE.2.2.2.2 h) (kk σ' _ hE.2.2.1)

theorem md_yX0_signAt : MD yX0_signAt 4 := by decide +kernel
theorem md_yX2_signAt : MD yX2_signAt 2 := by decide +kernel
set_option maxHeartbeats 4000000 in
theorem lc_35 {Γ : GG} {K : KK} {l : Launch} {N0 N1 N3 o mm ou : Nat} {adm : Nat → Nat} {b LL : Nat} {xs : Nat → Int32} {QP : Option Value → (Heap → Prop) → Prop} {mc ms b8 c8 b9 c9 : Nat} (hfl : l.stackTraces = false) (L : Lie N0 N1 N3 o mm ou adm) (hW : Wd (GE Γ N3) (ACo N0 N1 N3) K) (hX : ∀ (s : State) (H : Heap), Γ.2.2 s H → va_X b LL xs s H) (hbA : ¬ Af N0 b) (hLL : LL ≤ 256) {σ : MM} {T : Nat} (hT : T < 64) (hI : Inv σ T) {w i : Int} (hi : 0 ≤ i ∧ i + 4 ≤ (LL : Int)) (hb : b8 + 300 ≤ b9) (hc : c8 + 36400 ≤ c9) {SGD SGC SGS : Nat} (hsd : SGD + 1 ≤ 20) (hsc : SGC ≤ 300) (hss : SGS ≤ 36400) (hop : ∀ (p0 p1 : Int), RR p0 → RR p1 → OPs False Γ K l N0 N1 N3 o mm ou adm σ T yX0_signAt (wsW_ yX0_signAt cX0_signAt 5 (some .int) [(0, 10, 13, 13)]) SGD SGC SGS [.ref o, IV p0, IV p1, .ref ou] yX2_signAt (ws_ yX2_signAt cX2_signAt 4 (some .int)) 4 [.ref mm, IV p0, IV p1]) (kk : ∀ (σ' : MM) (w' : Int), Inv σ' (T + 1) → J Γ (Af N0) RP l RX0 "law" cL_law 7 (some .boolean) [] 20 mc ms QP X0 b8 c8 (PL Γ K N0 N1 N3 o mm ou adm σ' σ' w') 2280 [some (.ref b), some (.ref o), some (.ref mm), some (.ref ou), some (IV i), none, none] []) : J Γ (Af N0) RP l RX0 "law" cL_law 7 (some .boolean) [] 20 mc ms QP X0 b9 c9 (PL Γ K N0 N1 N3 o mm ou adm σ σ w) 2212 [some (.ref b), some (.ref o), some (.ref mm), some (.ref ou), some (IV i), none, none] [] := by
  refine jp_wk (fun H h => PL.at0 h) ?_
  obtain ⟨p0, hp0⟩ : ∃ p : Int, p = (xs (i + 1).toNat).toInt := ⟨_, rfl⟩
  have r0 : RR p0 := by rw [hp0]; exact rrI _
  obtain ⟨p1, hp1⟩ : ∃ p : Int, p = (xs (i + 2).toNat).toInt := ⟨_, rfl⟩
  have r1 : RR p1 := by rw [hp1]; exact rrI _
  obtain ⟨t, res, fin, ht, hz, hC, hM⟩ := hop p0 p1 r0 r1
  have hS9 : ∀ (c : Nat), c ≤ 36400 → c8 + c ≤ c9 := fun c h => by omega
  refine j_aload_n (pc := 2212) dL_law_2212 rfl ?_
  refine j_aload_n (pc := 2213) dL_law_2213 rfl ?_
  refine j_iload (pc := 2214) dL_law_2214 rfl ?_
  refine j_iconst (pc := 2216) dL_law_2216 rfl ?_
  refine j_iadd (pc := 2217) dL_law_2217 ?_
  refine j_sld (pc := 2218) hX hbA (by omega) (by omega) dL_law_2218 ?_
  rw [← hp0]
  refine j_aload_n (pc := 2219) dL_law_2219 rfl ?_
  refine j_iload (pc := 2220) dL_law_2220 rfl ?_
  refine j_iconst (pc := 2222) dL_law_2222 rfl ?_
  refine j_iadd (pc := 2223) dL_law_2223 ?_
  refine j_sld (pc := 2224) hX hbA (by omega) (by omega) dL_law_2224 ?_
  rw [← hp1]
  refine j_aload_n (pc := 2225) dL_law_2225 rfl ?_
  refine j_room (cl' := b8 + SGC) (sl' := c8 + SGS) (by omega) (by omega) ?_
  refine j_callSW (pc := 2226) (As := [.ref o, IV p0, IV p1, .ref ou]) (rest := []) (hC w) (lw_SW q1091 q1092 q43 q1093) md_yX0_signAt hsd (by decide) rfl (Nat.le_of_ble_eq_true rfl) dL_law_2226 (fun v P hq => ?_)
  obtain ⟨w1, rfl, hw1, rfl⟩ := hq
  refine j_istore (pc := 2229) dL_law_2229 (by decide) (lo' := [some (.ref b), some (.ref o), some (.ref mm), some (.ref ou), some (IV i), some (IV t), none]) rfl ?_
  refine j_aload_n (pc := 2231) dL_law_2231 rfl ?_
  refine j_aload_n (pc := 2232) dL_law_2232 rfl ?_
  refine j_iload (pc := 2233) dL_law_2233 rfl ?_
  refine j_iconst (pc := 2235) dL_law_2235 rfl ?_
  refine j_iadd (pc := 2236) dL_law_2236 ?_
  refine j_sld (pc := 2237) hX hbA (by omega) (by omega) dL_law_2237 ?_
  rw [← hp0]
  refine j_aload_n (pc := 2238) dL_law_2238 rfl ?_
  refine j_iload (pc := 2239) dL_law_2239 rfl ?_
  refine j_iconst (pc := 2241) dL_law_2241 rfl ?_
  refine j_iadd (pc := 2242) dL_law_2242 ?_
  refine j_sld (pc := 2243) hX hbA (by omega) (by omega) dL_law_2243 ?_
  rw [← hp1]
  refine j_room (cl' := b8 + 0) (sl' := c8 + 0) (by omega) (by omega) ?_
  refine j_callV (pc := 2244) (As := [IV p0, IV p1]) (rest := []) (hM _ _) (lw_V q1770 q1771 q1772 q48 q1773) rfl md_yX2_signAt PL.rcM (by decide) (by decide) rfl (Nat.le_of_ble_eq_true rfl) dL_law_2244 (fun v P hq => ?_)
  obtain ⟨r, σ', rfl, hE, rfl⟩ := hq
  refine j_istore (pc := 2247) dL_law_2247 (by decide) (lo' := [some (.ref b), some (.ref o), some (.ref mm), some (.ref ou), some (IV i), some (IV t), some (IV r)]) rfl ?_
  refine j_aload_n (pc := 2249) dL_law_2249 rfl ?_
  refine j_room (cl' := b8 + 0) (sl' := c8 + 0) (by omega) (by omega) ?_
  refine j_callV (pc := 2250) (As := []) (rest := []) (PL.ref L (m_thrown σ' hE.2.2.1.1.1)) (lw_V q1521 q1522 q1523 q48 q1524) rfl md_yX2_thrown PL.rcM (by decide) (by decide) rfl (Nat.le_of_ble_eq_true rfl) dL_law_2250 (fun v P hq => ?_)
  obtain ⟨r2', σ2, rfl, ⟨e1, e2⟩, rfl⟩ := hq
  rw [e2, e1, hE.2.1]
  refine j_iload (pc := 2253) dL_law_2253 rfl ?_
  refine j_icmp_eq (pc := 2255) (tgt := 2260) dL_law_2255 (by decide) (by omega) (by omega) (fun c => ?_) (fun c => absurd rfl c)
  refine j_iload (pc := 2260) dL_law_2260 rfl ?_
  refine j_if_ne (pc := 2262) (tgt := 2277) dL_law_2262 (by decide) (by omega) (fun c => ?_) (fun c => ?_)
  · refine j_goto (pc := 2277) (tgt := 2280) dL_law_2277 (by decide) ?_
    refine j_sub (lo' := [some (.ref b), some (.ref o), some (.ref mm), some (.ref ou), some (IV i), none, none]) ⟨Or.inr rfl, Or.inr rfl, Or.inr rfl, Or.inr rfl, Or.inr rfl, Or.inl rfl, Or.inl rfl, trivial⟩ ?_
    refine j_room (cl' := b8) (sl' := c8) (by omega) (by omega) ?_
    exact jp_wk (fun H h => PL.gs hE.2.2.2.1 hE.2.2.2.2 h) (kk σ' _ hE.2.2.1)
  · refine j_aload_n (pc := 2265) dL_law_2265 rfl ?_
    refine j_iconst (pc := 2266) dL_law_2266 rfl ?_
    refine jp_lald (pc := 2267) PL.cw dL_law_2267 ?_
    rw [hw1 c]
    refine j_iload (pc := 2268) dL_law_2268 rfl ?_
    rw [hE.1 c, IVw res]
    refine j_i2l (pc := 2270) dL_law_2270 (rrI _) ?_
    refine j_lcmpE (pc := 2271) dL_law_2271 ?_
    refine j_if_eq (pc := 2272) (tgt := 2277) dL_law_2272 (by decide) (by decide) (fun c9 => ?_) (fun c9 => absurd rfl c9)
    refine j_goto (pc := 2277) (tgt := 2280) dL_law_2277 (by decide) ?_
    refine j_sub (lo' := [some (.ref b), some (.ref o), some (.ref mm), some (.ref ou), some (IV i), none, none]) ⟨Or.inr rfl, Or.inr rfl, Or.inr rfl, Or.inr rfl, Or.inr rfl, Or.inl rfl, Or.inl rfl, trivial⟩ ?_
    refine j_room (cl' := b8) (sl' := c8) (by omega) (by omega) ?_
    exact jp_wk (fun H h => PL.gs hE.2.2.2.1 hE.2.2.2.2 h) (kk σ' _ hE.2.2.1)

