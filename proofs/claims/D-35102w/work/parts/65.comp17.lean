set_option maxRecDepth 100000
theorem agN_sAl {τ : MM} {a b : Nat} {c d : Int} {f g : Nat → Int} (h0 : τ.2 30 a = c) (h1 : τ.2 30 b = d) (hf : ∀ k : Nat, k < 6 → τ.2 29 (6 * a + k) = f k) (hg : ∀ k : Nat, k < 6 → τ.2 29 (6 * b + k) = g k) : ∀ k : Nat, k ≤ 6 → agN c d f g k = sAl τ a b k
  | 0, _ => by
    show (if c = d then (0 : Int) else 1) = if τ.2 30 (a : Int).toNat = τ.2 30 (b : Int).toNat then 0 else 1
    rw [Int.toNat_natCast, Int.toNat_natCast, h0, h1]
  | k + 1, hk => by
    show (if agN c d f g k = 1 ∧ f k = g k then (1 : Int) else 0) = if sAl τ a b k = 1 ∧ τ.2 29 (6 * (a : Int) + (k : Int)).toNat = τ.2 29 (6 * (b : Int) + (k : Int)).toNat then 1 else 0
    rw [agN_sAl h0 h1 hf hg k (by omega), show (6 * (a : Int) + (k : Int)).toNat = 6 * a + k by omega, show (6 * (b : Int) + (k : Int)).toNat = 6 * b + k by omega, hf k (by omega), hg k (by omega)]
section TAKEN
variable {K : KK} {s1 s2 : AL2} {o : Nat} {ad : AD} {σ : MM}
theorem Rel.same {h h' : AL2} (R : Rel K h o ad σ) (hs : ∀ k i j, live σ k i j → h' (ad k i j) = h (ad k i j)) : Rel K h' o ad σ := ⟨R.1, fun k i j hl => (hs k i j hl).trans (R.at k i j hl), R.2.2⟩
abbrev tkX (σ : MM) (y m : Nat) (c : Int) : AC ⊕ List Nat := pA 0 6 (c6 (fun x => (sC3 σ y c).2 29 (6 * (8 * y + m) + x)))
abbrev tkG (s1 : AL2) (ad : AD) (σ : MM) (y m q nb : Nat) (c : Int) : AL2 := upH (upH s1 nb (tkX σ y m c)) (ad 21 y 0) (pL (rg ((m : Int)) (fun j => ad 22 y j) ++ [q]))
theorem Rel.taken0 (R : Rel K s1 o ad σ) (hI : In σ) (hz : σ.1 14 ≠ 0) {y m : Nat} (hy : (y : Int) < σ.1 19) (hm : σ.2 31 y = (m : Int)) (hm8 : m < 8) {c : Int} {q nb : Nat} (fq : ∀ k i j, live σ k i j → ad k i j ≠ q) (fn : ∀ k i j, live σ k i j → ad k i j ≠ nb) (hne : q ≠ nb) (zq : s1 q = some (pO 10 [IV c, .ref nb])) : Rel K (tkG s1 ad σ y m q nb c) o (adC ad y m q nb) (sC3 σ y c) := by
  obtain ⟨t1, to, t30, t31, t29, -⟩ := sC3_at hI.1 (c := c) hm
  have hB : ∀ i, 0 ≤ σ.2 31 i ∧ σ.2 31 i ≤ 8 := fun i => hI.1.2 31 i
  have h19 : 0 ≤ σ.1 19 ∧ σ.1 19 ≤ 5 := hI.1.1 19
  have l21 : live σ 21 y 0 := ⟨hz, hy, rfl⟩
  refine R.counted h19.2 hy hz hm hm8 (fun i => (hB i).2) (fun i hi => hI.2.2.2.2.2.2.2.2.2.1 i hi) fq fn hne t1 to t30 t31 t29 ?_ ?_ ?_ (fun k i j hl hn => ?_)
  · show upH (upH s1 nb _) (ad 21 y 0) _ q = _
    rw [upH_ne (Ne.symm (fq 21 y 0 l21)), upH_ne hne]; exact zq
  · show upH (upH s1 nb _) (ad 21 y 0) _ nb = _
    rw [upH_ne (Ne.symm (fn 21 y 0 l21)), upH_self]
  · show upH (upH s1 nb _) (ad 21 y 0) _ (ad 21 y 0) = _
    rw [upH_self, hm]
  · show upH (upH s1 nb _) (ad 21 y 0) _ (ad k i j) = _
    rw [upH_ne (R.ne hl l21 hn), upH_ne (fn k i j hl)]
theorem tk_same {X L : AC ⊕ List Nat} {nb l1 bo : Nat} (h1 : s2 l1 = some L) (hnl : nb ≠ l1) (h2 : ∀ a z, s1 a = some z → a ≠ bo → a ≠ l1 → s2 a = some z) {b : Nat} {z : AC ⊕ List Nat} (hb : upH (upH s1 nb X) l1 L b = some z) (hbo : b ≠ bo) : upH s2 nb X b = some z := by
  by_cases e2 : b = l1
  · rw [e2, upH_self] at hb
    rw [e2, upH_ne (Ne.symm hnl), h1]
    exact hb
  · rw [upH_ne e2] at hb
    by_cases e1 : b = nb
    · rw [e1, upH_self] at hb ⊢
      exact hb
    · rw [upH_ne e1] at hb ⊢
      exact h2 b z hb hbo e2
theorem sC4_if (hB : Bd σ) {y m : Nat} {c : Int} (hm : σ.2 31 y = (m : Int)) {cc : Nat → Int} {ff : Nat → Nat → Int} {F : Nat → Int} (hcc : ∀ j, j < m → cc j = σ.2 30 (8 * y + j)) (hff : ∀ j, j < m → ff j = c6 (fun x => σ.2 29 (6 * (8 * y + j) + x))) (hF : F = rdN (fun q => σ.2 27 (20 * y + q)) (σ.2 33 c.toNat) (σ.2 28 y).toNat) :
    sC4 σ y c = if ∃ j : Nat, j < m ∧ agN (cc j) c (ff j) F 6 = 1 then setA (sC3 σ y c) 32 y ((8 * y + m : Nat) : Int) else sC3 σ y c := by
  obtain ⟨t1, to, t30, t31, t29, tx⟩ := sC3_at hB (c := c) hm
  have ea : sCa σ y = ((8 * y + m : Nat) : Int) := by unfold sCa; rw [Int.toNat_natCast, hm]; omega
  have e4 : sC4 σ y c = sSt (sC3 σ y c) y ((8 * y + m : Nat) : Int) m := by unfold sC4; rw [Int.toNat_natCast, hm, Int.toNat_natCast, ea]
  have hag : ∀ j : Nat, j < m → agN (cc j) c (ff j) F 6 = sAl (sC3 σ y c) (8 * (y : Int) + (j : Int)) ((8 * y + m : Nat) : Int) 6 := fun j hj => by
    have h9 := agN_sAl (τ := sC3 σ y c) (a := 8 * y + j) (b := 8 * y + m) (c := cc j) (d := c) (f := ff j) (g := F) (by rw [t30, uA_ne (by omega), hcc j hj]) (by rw [t30, uA_self]) (fun k hk => by rw [t29 _ (by omega), hff j hj, c6_at hk]) (fun k hk => by rw [hF]; exact tx k hk) 6 (Nat.le_refl _)
    rw [h9, show ((8 * y + j : Nat) : Int) = 8 * (y : Int) + (j : Int) by omega]
  rw [e4, sSt_at (m := m)]
  by_cases g : ∃ j : Nat, j < m ∧ agN (cc j) c (ff j) F 6 = 1
  · rw [if_pos g]
    obtain ⟨j, hj, h1⟩ := g
    exact if_pos ⟨j, hj, by rw [← hag j hj]; exact h1⟩
  · rw [if_neg g]
    exact if_neg (fun ⟨j, hj, h1⟩ => g ⟨j, hj, by rw [hag j hj]; exact h1⟩)
theorem sC4_bd (hB : Bd σ) {y m : Nat} {c : Int} (hm : σ.2 31 y = (m : Int)) (hm8 : m < 8) (hy : y < 5) (hc : 0 ≤ c ∧ c ≤ 3) : Bd (sC4 σ y c) := by
  have ea : sCa σ y = ((8 * y + m : Nat) : Int) := by unfold sCa; rw [Int.toNat_natCast, hm]; omega
  have h28 : 0 ≤ σ.2 28 y ∧ σ.2 28 y ≤ 20 := hB.2 28 y
  have h1 : CB (sC1 σ y c) (sCa σ y) 0 := CB.start (hB.a (by show (0 : Int) ≤ c ∧ c ≤ 3; exact hc)) _
  have h2 : Bd (sC2 σ y c) := (CB.all h1 (by omega) y c _ (by rw [sC1_2 σ y c (by decide) (by decide), Int.toNat_natCast]; omega)).1
  have h3 : Bd (sC3 σ y c) := h2.a (by show (0 : Int) ≤ _ ∧ _ ≤ (8 : Int); rw [sC2_2 σ y c (by decide) (by decide), Int.toNat_natCast, hm]; omega)
  rw [sC4_if hB hm (fun _ _ => rfl) (fun _ _ => rfl) rfl]
  split
  · exact h3.a (by show (-1 : Int) ≤ _ ∧ _ ≤ (39 : Int); omega)
  · exact h3
/-- a count was taken: none agrees -/
theorem Rel.taken1 (R : Rel K s1 o ad σ) (hI : In σ) (hz : σ.1 14 ≠ 0) {y m : Nat} (hy : (y : Int) < σ.1 19) (hm : σ.2 31 y = (m : Int)) (hm8 : m < 8) {c : Int} {q nb : Nat} (fq : ∀ k i j, live σ k i j → ad k i j ≠ q) (fn : ∀ k i j, live σ k i j → ad k i j ≠ nb) (hne : q ≠ nb) (zq : s1 q = some (pO 10 [IV c, .ref nb])) {B : AC ⊕ List Nat} (zb : s1 (ad 19 y 0) = some B)
    (T1 : s2 (ad 21 y 0) = some (pL (rg ((m : Int)) (fun j => ad 22 y j) ++ [q]))) (T2 : ∀ a z, s1 a = some z → a ≠ ad 19 y 0 → a ≠ ad 21 y 0 → s2 a = some z) (T5 : s2 (ad 19 y 0) = some B) (e4 : sC4 σ y c = sC3 σ y c) : Rel K (upH s2 nb (tkX σ y m c)) o (adC ad y m q nb) (sC4 σ y c) := by
  have R0 := R.taken0 hI hz hy hm hm8 fq fn hne zq
  have l21 : live σ 21 y 0 := ⟨hz, hy, rfl⟩
  have l19 : live σ 19 y 0 := ⟨hz, hy, rfl⟩
  have hl := Ne.symm (fn 21 y 0 l21)
  have a19 : adC ad y m q nb 19 y 0 = ad 19 y 0 := rfl
  have l19' : live (sC3 σ y c) 19 y 0 := by
    obtain ⟨t1, -⟩ := sC3_at hI.1 (c := c) hm
    exact ⟨by rw [t1]; exact hz, by rw [t1]; exact hy, rfl⟩
  rw [e4]
  refine R0.same fun k i j hlv => ?_
  by_cases e : k = 19 ∧ i = y ∧ j = 0
  · obtain ⟨e1, e2, e3⟩ := e
    rw [e1, e2, e3, a19, upH_ne (fn 19 y 0 l19), T5]
    show _ = upH (upH s1 nb _) (ad 21 y 0) _ (ad 19 y 0)
    rw [upH_ne (R.ne l19 l21 (by simp)), upH_ne (fn 19 y 0 l19), zb]
  · have h9 := R0.at k i j hlv
    rw [h9]
    exact tk_same T1 hl T2 h9 (by rw [← a19]; exact R0.ne hlv l19' e)
/-- a count was taken: one agrees -/
theorem Rel.taken2 (R : Rel K s1 o ad σ) (hI : In σ) (hz : σ.1 14 ≠ 0) {y m : Nat} (hy : (y : Int) < σ.1 19) (hm : σ.2 31 y = (m : Int)) (hm8 : m < 8) {c : Int} {q nb : Nat} (fq : ∀ k i j, live σ k i j → ad k i j ≠ q) (fn : ∀ k i j, live σ k i j → ad k i j ≠ nb) (hne : q ≠ nb) (zq : s1 q = some (pO 10 [IV c, .ref nb])) {N : AC ⊕ List Nat} (zn : s1 nb = some N) (h32 : σ.2 32 y = -1)
    (T1 : s2 (ad 21 y 0) = some (pL (rg ((m : Int)) (fun j => ad 22 y j) ++ [q]))) (T2 : ∀ a z, s1 a = some z → a ≠ ad 19 y 0 → a ≠ ad 21 y 0 → s2 a = some z) {cq cb : Nat} (T6 : s1 cq = none) (T7 : s1 cb = none) (T8 : cq ≠ cb) (T9 : s2 cq = some (pO 10 [IV c, .ref cb])) (T11 : s2 (ad 19 y 0) = some (pO 8 [.ref (ad 20 y 0), .ref (ad 21 y 0), .ref cq, IV (σ.2 21 y)])) (e4 : sC4 σ y c = setA (sC3 σ y c) 32 y ((8 * y + m : Nat) : Int)) :
    Rel K (upH (upH s2 nb (tkX σ y m c)) cb (tkX σ y m c)) o (adS (adC ad y m q nb) y cq cb) (sC4 σ y c) := by
  have R0 := R.taken0 hI hz hy hm hm8 fq fn hne zq
  obtain ⟨t1, to, t30, t31, t29, -⟩ := sC3_at hI.1 (c := c) hm
  have l21 : live σ 21 y 0 := ⟨hz, hy, rfl⟩
  have l19 : live σ 19 y 0 := ⟨hz, hy, rfl⟩
  have hl := Ne.symm (fn 21 y 0 l21)
  have l19' : live (sC3 σ y c) 19 y 0 := ⟨by rw [t1]; exact hz, by rw [t1]; exact hy, rfl⟩
  have nqn : cq ≠ nb := fun e => by rw [e, zn] at T6; cases T6
  have nbn : cb ≠ nb := fun e => by rw [e, zn] at T7; cases T7
  have z21 := R.at 21 y 0 l21
  have z19 := R.at 19 y 0 l19
  have gq : tkG s1 ad σ y m q nb c cq = none := by
    show upH (upH s1 nb _) (ad 21 y 0) _ cq = none
    rw [upH_ne (fun e => by rw [e, z21] at T6; cases T6), upH_ne nqn]; exact T6
  have gb : tkG s1 ad σ y m q nb c cb = none := by
    show upH (upH s1 nb _) (ad 21 y 0) _ cb = none
    rw [upH_ne (fun e => by rw [e, z21] at T7; cases T7), upH_ne nbn]; exact T7
  have n19b : ad 19 y 0 ≠ cb := fun e => by rw [← e, z19] at T7; cases T7
  rw [e4]
  refine R0.settle (by rw [t1]; exact hy) (by rw [t1]; exact hz) (fun k i j h9 => R0.fresh gq h9) (fun k i j h9 => R0.fresh gb h9) T8 ?_ (upH_self _ _ _) ?_ (by rw [to 32 (by decide) (by decide) (by decide)]; exact h32) (fun k i j hlv e => ?_)
  · rw [upH_ne T8, upH_ne nqn, T9, t30, uA_self]
  · show upH (upH s2 nb _) cb _ (ad 19 y 0) = _
    rw [upH_ne n19b, upH_ne (fn 19 y 0 l19), T11, to 21 (by decide) (by decide) (by decide)]
    rfl
  · have h9 := R0.at k i j hlv
    rw [h9, upH_ne (R0.fresh gb hlv)]
    exact tk_same T1 hl T2 h9 (R0.ne hlv l19' e)
end TAKEN

theorem fa_X9_111_X10 : FA RX9 111 8 2 := ⟨RX10, TX10, 4, "BallotFoundry$Box", rfl, in_X10, by decide, q792, Or.inl rfl⟩
set_option maxHeartbeats 4000000 in
theorem c_allSet {Γ : GG} {A : Nat → Prop} {K : KK} {l : Launch} (h : AL2) (hfe : FE Γ) (o : Nat) (ad : AD) (σ : MM) (hR : Rel K h o ad σ) (hB : Bd σ) (hz : σ.1 14 ≠ 0) : Ct Γ A (Rep2 Γ A K) l yX9_isSettled (ws_ yX9_isSettled cX9_isSettled 3 (some .boolean)) 4 0 0 [.ref (ad 12 0 0)] h (qI (fun (r : Int) (h' : AL2) => r = sAll σ (σ.1 19).toNat ∧ h' = h)) X0 := by
  refine Ct.ofJ (own := RX9) (nm := "isSettled") (lo := [some (.ref (ad 12 0 0)), none, none]) pn_X9 rfl rfl (List.forall_mem_cons.mpr ⟨rfl, (fun _ h => nomatch h)⟩) (Nat.le_of_ble_eq_true rfl) rfl ?_
  have hQ : ∀ (r : Int) (h' : AL2), (r = sAll σ (σ.1 19).toNat ∧ h' = h) → (qI (fun (r : Int) (h' : AL2) => r = sAll σ (σ.1 19).toNat ∧ h' = h)) (some (IV r)) h' := fun r h' h => ⟨r, rfl, h⟩
  generalize (qI (fun (r : Int) (h' : AL2) => r = sAll σ (σ.1 19).toNat ∧ h' = h)) = QP at hQ ⊢
  have n19 : 0 ≤ σ.1 19 ∧ σ.1 19 ≤ 5 := hB.1 19
  refine j_iconst (pc := 0) dX9_isSettled_0 rfl ?_
  refine j_istore_n (pc := 1) dX9_isSettled_1 (by decide) (lo' := [some (.ref (ad 12 0 0)), some (IV 1), none]) rfl ?_
  refine j_iconst (pc := 2) dX9_isSettled_2 rfl ?_
  refine j_istore_n (pc := 3) dX9_isSettled_3 (by decide) (lo' := [some (.ref (ad 12 0 0)), some (IV 1), some (IV 0)]) rfl ?_
  have hl_4 : ∀ (fu : Nat) (k : Nat) (z : Int), (σ.1 19).toNat - k < fu → (k : Int) ≤ σ.1 19 → z = sAll σ k → J Γ A (Rep2 Γ A K) l RX9 "isSettled" cX9_isSettled 3 (some .boolean) [] 4 0 0 QP X0 0 0 h 4 [some (.ref (ad 12 0 0)), some (IV z), some (IV (k : Int))] [] := by
    intro fu
    induction fu with
    | zero => intro k z hm; exact absurd hm (Nat.not_lt_zero _)
    | succ fu ih_4 =>
      intro k z hm hk hzz
      have ha9 := sAll_01 σ k
      rw [← hzz] at ha9
      refine j_iload_n (pc := 4) dX9_isSettled_4 rfl ?_
      refine j_aload_n (pc := 5) dX9_isSettled_5 rfl ?_
      refine j2_get fa_X9_25_X9 (show h (ad 12 0 0) = some (pO 7 [IV (σ.1 15), IV (σ.1 16), IV (σ.1 17), .ref (ad 13 0 0), .ref (ad 14 0 0), .ref (ad 15 0 0), .ref (ad 16 0 0), .ref (ad 17 0 0), .ref (ad 18 0 0), IV (σ.1 14)]) from hR.at 12 0 0 ⟨hz, rfl, rfl⟩) rfl dX9_isSettled_6 ?_
      refine j_callF (pc := 9) (xm := ⟨"java/util/List", "size", "()I"⟩) (l2_size (show h (ad 16 0 0) = some (pL (rg (σ.1 19) (fun q => ad 19 q 0))) from hR.at 16 0 0 ⟨hz, rfl, rfl⟩)) (lw_F q643 q159 q161 q47 q163) hfe.1 (ci := 2) rfl rfl mdx_yJ2_size (RC.ofL (show h (ad 16 0 0) = some (pL (rg (σ.1 19) (fun q => ad 19 q 0))) from hR.at 16 0 0 ⟨hz, rfl, rfl⟩)) (by decide) (by decide) rfl (Nat.le_of_ble_eq_true rfl) dX9_isSettled_9 (qI.k (fun r_9 s_9 q_9 => ?_))
      obtain ⟨e1q_9, e2q_9⟩ := q_9
      subst s_9
      rw [rg_len (by omega)] at e1q_9
      subst r_9
      refine j_icmp_ge (pc := 14) (tgt := 50) dX9_isSettled_14 (by decide) (by omega) (by omega) (fun c_14 => ?_) (fun c_14 => ?_)
      · refine j_iload_n (pc := 50) dX9_isSettled_50 rfl ?_
        refine j_zret (pc := 51) rfl (by omega) (hQ _ _ ?_) dX9_isSettled_51
        have e9 : k = (σ.1 19).toNat := by omega
        exact ⟨by rw [hzz, e9], rfl⟩
      · refine j_iload_n (pc := 17) dX9_isSettled_17 rfl ?_
        refine j_aload_n (pc := 18) dX9_isSettled_18 rfl ?_
        refine j2_get fa_X9_25_X9 (show h (ad 12 0 0) = some (pO 7 [IV (σ.1 15), IV (σ.1 16), IV (σ.1 17), .ref (ad 13 0 0), .ref (ad 14 0 0), .ref (ad 15 0 0), .ref (ad 16 0 0), .ref (ad 17 0 0), .ref (ad 18 0 0), IV (σ.1 14)]) from hR.at 12 0 0 ⟨hz, rfl, rfl⟩) rfl dX9_isSettled_19 ?_
        refine j_iload_n (pc := 22) dX9_isSettled_22 rfl ?_
        refine j_callF (pc := 23) (xm := ⟨"java/util/List", "get", "(I)Ljava/lang/Object;"⟩) (l2_get (show h (ad 16 0 0) = some (pL (rg (σ.1 19) (fun q => ad 19 q 0))) from hR.at 16 0 0 ⟨hz, rfl, rfl⟩) (i := (k : Int)) (v := ad 19 k 0) (by omega) (rg_at (by omega) (by omega))) (lw_F q645 q185 q187 q47 q189) hfe.2.2.1 (ci := 2) rfl rfl mdx_yJ2_get (RC.ofL (show h (ad 16 0 0) = some (pL (rg (σ.1 19) (fun q => ad 19 q 0))) from hR.at 16 0 0 ⟨hz, rfl, rfl⟩)) (by decide) (by decide) rfl (Nat.le_of_ble_eq_true rfl) dX9_isSettled_23 (qR.k (fun r_23 s_23 q_23 => ?_))
        obtain ⟨e1q_23, e2q_23⟩ := q_23
        subst r_23
        subst s_23
        refine j2_castS (C := RX10) rfl q820 (show h (ad 19 k 0) = some (pO 8 [.ref (ad 20 k 0), .ref (ad 21 k 0), va_rf (if σ.2 32 k = -1 then none else some (ad 24 k 0)), IV (σ.2 21 k)]) from hR.at 19 k 0 ⟨hz, (by omega), rfl⟩) dX9_isSettled_28 ?_
        refine j2_get fa_X9_111_X10 (show h (ad 19 k 0) = some (pO 8 [.ref (ad 20 k 0), .ref (ad 21 k 0), va_rf (if σ.2 32 k = -1 then none else some (ad 24 k 0)), IV (σ.2 21 k)]) from hR.at 19 k 0 ⟨hz, (by omega), rfl⟩) rfl dX9_isSettled_31 ?_
        rcases e_34 : if σ.2 32 k = -1 then none else some (ad 24 k 0) with _ | a_34
        · refine j_ifnullN (pc := 34) (tgt := 41) dX9_isSettled_34 (by decide) ?_
          refine j_iconst (pc := 41) dX9_isSettled_41 rfl ?_
          refine j_iand (pc := 42) (r := 0) dX9_isSettled_42 (and_0 (by omega)) ?_
          refine j_istore_n (pc := 43) dX9_isSettled_43 (by decide) (lo' := [some (.ref (ad 12 0 0)), some (IV 0), some (IV (k : Int))]) rfl ?_
          refine j_iinc (pc := 44) dX9_isSettled_44 rfl (by decide) (lo' := [some (.ref (ad 12 0 0)), some (IV 0), some (IV ((k : Int) + 1))]) rfl ?_
          refine j_goto (pc := 47) (tgt := 4) dX9_isSettled_47 (by decide) ?_
          exact ih_4 (k + 1) 0 (by omega) (by omega) (by show _ = if sAll σ k = 1 ∧ σ.2 32 k ≠ -1 then 1 else 0; rw [← hzz]; rw [if_neg (fun y => y.2 (if_none e_34))])
        · refine j_ifnull (pc := 34) dX9_isSettled_34 ?_
          refine j_iconst (pc := 37) dX9_isSettled_37 rfl ?_
          refine j_goto (pc := 38) (tgt := 42) dX9_isSettled_38 (by decide) ?_
          refine j_iand (pc := 42) (r := z) dX9_isSettled_42 (and_1 (by omega)) ?_
          refine j_istore_n (pc := 43) dX9_isSettled_43 (by decide) (lo' := [some (.ref (ad 12 0 0)), some (IV z), some (IV (k : Int))]) rfl ?_
          refine j_iinc (pc := 44) dX9_isSettled_44 rfl (by decide) (lo' := [some (.ref (ad 12 0 0)), some (IV z), some (IV ((k : Int) + 1))]) rfl ?_
          refine j_goto (pc := 47) (tgt := 4) dX9_isSettled_47 (by decide) ?_
          exact ih_4 (k + 1) z (by omega) (by omega) (by show _ = if sAll σ k = 1 ∧ σ.2 32 k ≠ -1 then 1 else 0; rw [← hzz]; have e9 := (if_some e_34).1; rcases ha9 with ha9 | ha9 <;> rw [ha9] <;> simp [e9])
  exact hl_4 _ 0 1 (Nat.lt_succ_self _) (by omega) rfl

theorem md_yX10_take : MD yX10_take 1 := by decide +kernel
theorem md_yX9_isSettled : MD yX9_isSettled 0 := by decide +kernel
set_option maxHeartbeats 4000000 in
theorem c_count {Γ : GG} {A : Nat → Prop} {K : KK} {l : Launch} (h : AL2) (hfl : l.stackTraces = false) (hke : KE Γ A K) (hfe : FE Γ) (hIOB : TH5 Γ A "java/lang/IndexOutOfBoundsException") (hIAE : TH5 Γ A "java/lang/IllegalArgumentException") (hISE : TH5 Γ A "java/lang/IllegalStateException") (o : Nat) (ad : AD) (σ : MM) (hR : Rel K h o ad σ) (hB : Bd σ) (s : Int) (hs : RR s) (c : Int) (hc : RR c) (hko8 : KO Γ RX8) (hko12 : KO Γ RX12) (hbe : BE Γ A K) (hse : SE Γ A K) (hne : NE Γ) (hI : In σ) (hn : σ.1 42 ≤ 240) : Ct Γ A (Rep2 Γ A K) l yX1_count (ws_ yX1_count cX1_count 4 (some .boolean)) 13 14 620 [.ref o, IV s, IV c] h (qI (fun (r : Int) (h' : AL2) => t2 (isS σ s ∧ 0 ≤ c ∧ c ≤ 3) (σ.1 14 = 4 ∧ s < σ.1 19 ∧ σ.2 32 s.toNat = -1 ∧ σ.2 31 s.toNat < 8) = 0 ∧ r = bI ((sCount σ s c).2 32 s.toNat ≠ -1) ∧ ∃ ad', Rel K h' o ad' (sCount σ s c))) (fun (E : String) (h' : AL2) => xE ["java/lang/IndexOutOfBoundsException", "java/lang/IllegalStateException"] (t2 (isS σ s ∧ 0 ≤ c ∧ c ≤ 3) (σ.1 14 = 4 ∧ s < σ.1 19 ∧ σ.2 32 s.toNat = -1 ∧ σ.2 31 s.toNat < 8)) E ∧ ∃ ad', Rel K h' o ad' σ) := by
  refine Ct.ofJ (own := RX1) (nm := "count") (lo := [some (.ref o), some (IV s), some (IV c), none]) pn_X1 rfl rfl (List.forall_mem_cons.mpr ⟨rfl, (List.forall_mem_cons.mpr ⟨rfl, (List.forall_mem_cons.mpr ⟨rfl, (fun _ h => nomatch h)⟩)⟩)⟩) (Nat.le_of_ble_eq_true rfl) rfl ?_
  have hQ : ∀ (r : Int) (h' : AL2), (t2 (isS σ s ∧ 0 ≤ c ∧ c ≤ 3) (σ.1 14 = 4 ∧ s < σ.1 19 ∧ σ.2 32 s.toNat = -1 ∧ σ.2 31 s.toNat < 8) = 0 ∧ r = bI ((sCount σ s c).2 32 s.toNat ≠ -1) ∧ ∃ ad', Rel K h' o ad' (sCount σ s c)) → (qI (fun (r : Int) (h' : AL2) => t2 (isS σ s ∧ 0 ≤ c ∧ c ≤ 3) (σ.1 14 = 4 ∧ s < σ.1 19 ∧ σ.2 32 s.toNat = -1 ∧ σ.2 31 s.toNat < 8) = 0 ∧ r = bI ((sCount σ s c).2 32 s.toNat ≠ -1) ∧ ∃ ad', Rel K h' o ad' (sCount σ s c))) (some (IV r)) h' := fun r h' h => ⟨r, rfl, h⟩
  generalize (qI (fun (r : Int) (h' : AL2) => t2 (isS σ s ∧ 0 ≤ c ∧ c ≤ 3) (σ.1 14 = 4 ∧ s < σ.1 19 ∧ σ.2 32 s.toNat = -1 ∧ σ.2 31 s.toNat < 8) = 0 ∧ r = bI ((sCount σ s c).2 32 s.toNat ≠ -1) ∧ ∃ ad', Rel K h' o ad' (sCount σ s c))) = QP at hQ ⊢
  have hX : ∀ (E : String) (h' : AL2), (xE ["java/lang/IndexOutOfBoundsException", "java/lang/IllegalStateException"] (t2 (isS σ s ∧ 0 ≤ c ∧ c ≤ 3) (σ.1 14 = 4 ∧ s < σ.1 19 ∧ σ.2 32 s.toNat = -1 ∧ σ.2 31 s.toNat < 8)) E ∧ ∃ ad', Rel K h' o ad' σ) → (fun (E : String) (h' : AL2) => xE ["java/lang/IndexOutOfBoundsException", "java/lang/IllegalStateException"] (t2 (isS σ s ∧ 0 ≤ c ∧ c ≤ 3) (σ.1 14 = 4 ∧ s < σ.1 19 ∧ σ.2 32 s.toNat = -1 ∧ σ.2 31 s.toNat < 8)) E ∧ ∃ ad', Rel K h' o ad' σ) E h' := fun E h' h => h
  generalize (fun (E : String) (h' : AL2) => xE ["java/lang/IndexOutOfBoundsException", "java/lang/IllegalStateException"] (t2 (isS σ s ∧ 0 ≤ c ∧ c ≤ 3) (σ.1 14 = 4 ∧ s < σ.1 19 ∧ σ.2 32 s.toNat = -1 ∧ σ.2 31 s.toNat < 8)) E ∧ ∃ ad', Rel K h' o ad' σ) = XP at hX ⊢
  have n6 : 0 ≤ σ.1 6 ∧ σ.1 6 ≤ 5 := hB.1 6
  have n19 : 0 ≤ σ.1 19 ∧ σ.1 19 ≤ 5 := hB.1 19
  have n28 : 0 ≤ σ.2 28 s.toNat ∧ σ.2 28 s.toNat ≤ 20 := hB.2 28 _
  have n31 : 0 ≤ σ.2 31 s.toNat ∧ σ.2 31 s.toNat ≤ 8 := hB.2 31 _
  have n32 : -1 ≤ σ.2 32 s.toNat ∧ σ.2 32 s.toNat ≤ 39 := hB.2 32 _
  have n14 : 0 ≤ σ.1 14 ∧ σ.1 14 ≤ 5 := hB.1 14
  refine j_iconst (pc := 0) dX1_count_0 rfl ?_
  refine j_room (cl' := 13 + 1) (sl' := 616 + 4) (by omega) (by omega) ?_
  refine j2_newa (i := 4) (N := 4) (atype := .int) hke.1 (Or.inl ⟨rfl, rfl⟩) q141 (by omega) (by omega) (by omega) dX1_count_1 (fun a_1 h_1 n_1 e_1 => ?_)
  have z_1 : h_1 a_1 = some (pA 0 4 (fun _ => 0)) := by rw [e_1]; exact upH_self _ _ _
  have fo_a_1 : ∀ k i j, live σ k i j → ad k i j ≠ a_1 := fun k i j hl => hR.fresh n_1 hl
  have R_2 : Rel K h_1 o ad σ := hR.other (fun b c hb => by rw [e_1]; exact upH_old hb n_1)
  refine j_dup (pc := 3) dX1_count_3 rfl ?_
  refine j_iconst (pc := 4) dX1_count_4 rfl ?_
  refine j_iload_n (pc := 5) dX1_count_5 rfl ?_
  refine j2_iast (i := 0) z_1 (by show 0 ≤ 0 ∧ 0 < ((4 : Nat) : Int); omega) dX1_count_6 (fun h_6 e_6 => ?_)
  have z_3 : h_6 a_1 = some (pA 0 4 (uA (fun _ => 0) 0 s)) := by rw [e_6]; exact upH_self _ _ _
  have R_4 : Rel K h_6 o ad σ := R_2.off e_6 fo_a_1
  refine j_dup (pc := 7) dX1_count_7 rfl ?_
  refine j_iconst (pc := 8) dX1_count_8 rfl ?_
  refine j_aload_n (pc := 9) dX1_count_9 rfl ?_
  refine j2_get fa_X1_20_X1 (show h_6 (o) = some (pO 0 [.ref (ad 1 0 0), .ref (ad 2 0 0), .ref (ad 3 0 0), .ref (ad 4 0 0), va_rf (if σ.1 14 = 0 then none else some (ad 12 0 0)), IV (σ.1 0), .ref (ad 5 0 0), .ref (ad 6 0 0)]) from R_4.top) rfl dX1_count_10 ?_
  refine j_callF (pc := 13) (xm := ⟨"java/util/List", "size", "()I"⟩) (l2_size (show h_6 (ad 3 0 0) = some (pL (rg (σ.1 6) (fun p => ad 8 p 0))) from R_4.at 3 0 0 ⟨rfl, rfl⟩)) (lw_F q155 q159 q161 q47 q163) hfe.1 (ci := 2) rfl rfl mdx_yJ2_size (RC.ofL (show h_6 (ad 3 0 0) = some (pL (rg (σ.1 6) (fun p => ad 8 p 0))) from R_4.at 3 0 0 ⟨rfl, rfl⟩)) (by decide) (by decide) rfl (Nat.le_of_ble_eq_true rfl) dX1_count_13 (qI.k (fun r_13 s_13 q_13 => ?_))
  obtain ⟨e1q_13, e2q_13⟩ := q_13
  subst s_13
  rw [rg_len (by omega)] at e1q_13
  subst r_13
  refine j2_iast (i := 1) z_3 (by show 0 ≤ 1 ∧ 1 < ((4 : Nat) : Int); omega) dX1_count_18 (fun h_18 e_18 => ?_)
  have z_5 : h_18 a_1 = some (pA 0 4 (uA (uA (fun _ => 0) 0 s) 1 (σ.1 6))) := by rw [e_18]; exact upH_self _ _ _
  have R_6 : Rel K h_18 o ad σ := R_4.off e_18 fo_a_1
  refine j_dup (pc := 19) dX1_count_19 rfl ?_
  refine j_iconst (pc := 20) dX1_count_20 rfl ?_
  refine j_iload_n (pc := 21) dX1_count_21 rfl ?_
  refine j2_iast (i := 2) z_5 (by show 0 ≤ 2 ∧ 2 < ((4 : Nat) : Int); omega) dX1_count_22 (fun h_22 e_22 => ?_)
  have z_7 : h_22 a_1 = some (pA 0 4 (uA (uA (uA (fun _ => 0) 0 s) 1 (σ.1 6)) 2 c)) := by rw [e_22]; exact upH_self _ _ _
  have R_8 : Rel K h_22 o ad σ := R_6.off e_22 fo_a_1
  refine j_dup (pc := 23) dX1_count_23 rfl ?_
  refine j_iconst (pc := 24) dX1_count_24 rfl ?_
  refine j_iconst (pc := 25) dX1_count_25 rfl ?_
  refine j2_iast (i := 3) z_7 (by show 0 ≤ 3 ∧ 3 < ((4 : Nat) : Int); omega) dX1_count_26 (fun h_26 e_26 => ?_)
  have z_9 : h_26 a_1 = some (pA 0 4 (uA (uA (uA (uA (fun _ => 0) 0 s) 1 (σ.1 6)) 2 c) 3 4)) := by rw [e_26]; exact upH_self _ _ _
  have R_10 : Rel K h_26 o ad σ := R_8.off e_26 fo_a_1
  refine j_room (cl' := 12 + 1) (sl' := 610 + 6) (by omega) (by omega) ?_
  refine j_callSx (pc := 27) (c_exist h_26 hfl RG.of2 hIOB a_1 2 (uA (uA (uA (uA (fun _ => 0) 0 s) 1 (σ.1 6)) 2 c) 3 4) (rrA (rrA (rrA (rrA rr0 (by omega)) (by omega)) (by omega)) (by decide)) (by decide) z_9) (lw_S q370 q371 q44 q372) md_yX1_exist (nT _) (fun E x9 hx9 => by obtain ⟨rfl, hn9, rfl⟩ := hx9; rw [ex2] at hn9; exact hX _ _ ⟨xE_of 0 (by unfold t2; (repeat' split) <;> omega) rfl, ad, R_10⟩) (by decide) (by decide) rfl (Nat.le_of_ble_eq_true rfl) dX1_count_27 (qV.k (fun s_27 q_27 => ?_))
  obtain ⟨q_27a, q_27e⟩ := q_27
  subst s_27
  have q_27b := ex2.mp q_27a
  refine j_aload_n (pc := 30) dX1_count_30 rfl ?_
  refine j_callV (pc := 31) (c_stage h_26 o ad σ R_10 hB) (lw_V q172 q147 q148 q44 q149) rfl md_yX1_stage (RC.of2 (show h_26 (o) = some (pO 0 [.ref (ad 1 0 0), .ref (ad 2 0 0), .ref (ad 3 0 0), .ref (ad 4 0 0), va_rf (if σ.1 14 = 0 then none else some (ad 12 0 0)), IV (σ.1 0), .ref (ad 5 0 0), .ref (ad 6 0 0)]) from R_10.top) rfl) (by decide) (by decide) rfl (Nat.le_of_ble_eq_true rfl) dX1_count_31 (qI.k (fun r_31 s_31 q_31 => ?_))
  obtain ⟨e1q_31, e2q_31⟩ := q_31
  subst r_31
  subst s_31
  have n14_31 : 0 ≤ σ.1 14 ∧ σ.1 14 ≤ 5 := hB.1 14
  refine j_iconst (pc := 34) dX1_count_34 rfl ?_
  refine j_icmp_ne (pc := 35) (tgt := 58) dX1_count_35 (by decide) (by omega) (by decide) (fun c_35 => ?_) (fun c_35 => ?_)
  · refine j_iconst (pc := 58) dX1_count_58 rfl ?_
    refine j_room (cl' := 11 + 1) (sl' := 604 + 6) (by omega) (by omega) ?_
    refine j_callSx (pc := 59) (c_allow h_26 hfl RG.of2 hISE 0 (Or.inl rfl)) (lw_S q443 q444 q44 q445) md_yX1_allow (nT _) (fun E x9 hx9 => by obtain ⟨hn9, rfl, rfl⟩ := hx9; (try have hn8 := bI_0 hn9); exact hX _ _ ⟨xE_of 1 (by unfold t2; (repeat' split) <;> omega) rfl, ad, R_10⟩) (by decide) (by decide) rfl (Nat.le_of_ble_eq_true rfl) dX1_count_59 (qV.k (fun s_59 q_59 => ?_))
    exact absurd q_59.1 (by decide)
  · have hz : σ.1 14 ≠ 0 := by omega
    refine j_iload_n (pc := 38) dX1_count_38 rfl ?_
    refine j_aload_n (pc := 39) dX1_count_39 rfl ?_
    refine j2_get fa_X1_58_X1 (show h_26 (o) = some (pO 0 [.ref (ad 1 0 0), .ref (ad 2 0 0), .ref (ad 3 0 0), .ref (ad 4 0 0), .ref (ad 12 0 0), IV (σ.1 0), .ref (ad 5 0 0), .ref (ad 6 0 0)]) from R_10.top1 hz) rfl dX1_count_40 ?_
    refine j2_get fa_X1_62_X9 (show h_26 (ad 12 0 0) = some (pO 7 [IV (σ.1 15), IV (σ.1 16), IV (σ.1 17), .ref (ad 13 0 0), .ref (ad 14 0 0), .ref (ad 15 0 0), .ref (ad 16 0 0), .ref (ad 17 0 0), .ref (ad 18 0 0), IV (σ.1 14)]) from R_10.at 12 0 0 ⟨hz, rfl, rfl⟩) rfl dX1_count_43 ?_
    refine j_callF (pc := 46) (xm := ⟨"java/util/List", "size", "()I"⟩) (l2_size (show h_26 (ad 16 0 0) = some (pL (rg (σ.1 19) (fun q => ad 19 q 0))) from R_10.at 16 0 0 ⟨hz, rfl, rfl⟩)) (lw_F q155 q159 q161 q47 q163) hfe.1 (ci := 2) rfl rfl mdx_yJ2_size (RC.ofL (show h_26 (ad 16 0 0) = some (pL (rg (σ.1 19) (fun q => ad 19 q 0))) from R_10.at 16 0 0 ⟨hz, rfl, rfl⟩)) (by decide) (by decide) rfl (Nat.le_of_ble_eq_true rfl) dX1_count_46 (qI.k (fun r_46 s_46 q_46 => ?_))
    obtain ⟨e1q_46, e2q_46⟩ := q_46
    subst s_46
    rw [rg_len (by omega)] at e1q_46
    subst r_46
    refine j_icmp_ge (pc := 51) (tgt := 58) dX1_count_51 (by decide) (by omega) (by omega) (fun c_51 => ?_) (fun c_51 => ?_)
    · refine j_iconst (pc := 58) dX1_count_58 rfl ?_
      refine j_room (cl' := 11 + 1) (sl' := 604 + 6) (by omega) (by omega) ?_
      refine j_callSx (pc := 59) (c_allow h_26 hfl RG.of2 hISE 0 (Or.inl rfl)) (lw_S q443 q444 q44 q445) md_yX1_allow (nT _) (fun E x9 hx9 => by obtain ⟨hn9, rfl, rfl⟩ := hx9; (try have hn8 := bI_0 hn9); exact hX _ _ ⟨xE_of 1 (by unfold t2; (repeat' split) <;> omega) rfl, ad, R_10⟩) (by decide) (by decide) rfl (Nat.le_of_ble_eq_true rfl) dX1_count_59 (qV.k (fun s_59_1 q_59_1 => ?_))
      exact absurd q_59_1.1 (by decide)
    · refine j_iconst (pc := 54) dX1_count_54 rfl ?_
      refine j_goto (pc := 55) (tgt := 59) dX1_count_55 (by decide) ?_
      refine j_room (cl' := 11 + 1) (sl' := 604 + 6) (by omega) (by omega) ?_
      refine j_callSx (pc := 59) (c_allow h_26 hfl RG.of2 hISE 1 (Or.inr rfl)) (lw_S q443 q444 q44 q445) md_yX1_allow (nT _) (fun E x9 hx9 => by obtain ⟨hn9, rfl, rfl⟩ := hx9; (try have hn8 := bI_0 hn9); exact hX _ _ ⟨xE_of 1 (by unfold t2; (repeat' split) <;> omega) rfl, ad, R_10⟩) (by decide) (by decide) rfl (Nat.le_of_ble_eq_true rfl) dX1_count_59 (qV.k (fun s_59_1 q_59_1 => ?_))
      obtain ⟨q_59_1b, q_59_1e⟩ := q_59_1
      subst s_59_1
      refine j_aload_n (pc := 62) dX1_count_62 rfl ?_
      refine j2_get fa_X1_58_X1 (show h_26 (o) = some (pO 0 [.ref (ad 1 0 0), .ref (ad 2 0 0), .ref (ad 3 0 0), .ref (ad 4 0 0), .ref (ad 12 0 0), IV (σ.1 0), .ref (ad 5 0 0), .ref (ad 6 0 0)]) from R_10.top1 hz) rfl dX1_count_63 ?_
      refine j2_get fa_X1_62_X9 (show h_26 (ad 12 0 0) = some (pO 7 [IV (σ.1 15), IV (σ.1 16), IV (σ.1 17), .ref (ad 13 0 0), .ref (ad 14 0 0), .ref (ad 15 0 0), .ref (ad 16 0 0), .ref (ad 17 0 0), .ref (ad 18 0 0), IV (σ.1 14)]) from R_10.at 12 0 0 ⟨hz, rfl, rfl⟩) rfl dX1_count_66 ?_
      refine j_iload_n (pc := 69) dX1_count_69 rfl ?_
      refine j_callF (pc := 70) (xm := ⟨"java/util/List", "get", "(I)Ljava/lang/Object;"⟩) (l2_get (show h_26 (ad 16 0 0) = some (pL (rg (σ.1 19) (fun q => ad 19 q 0))) from R_10.at 16 0 0 ⟨hz, rfl, rfl⟩) (i := s) (v := ad 19 (s).toNat 0) (by omega) (rg_at (by omega) (by omega))) (lw_F q551 q185 q187 q47 q189) hfe.2.2.1 (ci := 2) rfl rfl mdx_yJ2_get (RC.ofL (show h_26 (ad 16 0 0) = some (pL (rg (σ.1 19) (fun q => ad 19 q 0))) from R_10.at 16 0 0 ⟨hz, rfl, rfl⟩)) (by decide) (by decide) rfl (Nat.le_of_ble_eq_true rfl) dX1_count_70 (qR.k (fun r_70 s_70 q_70 => ?_))
      obtain ⟨e1q_70, e2q_70⟩ := q_70
      subst r_70
      subst s_70
      refine j2_castS (C := RX10) rfl q777 (show h_26 (ad 19 (s).toNat 0) = some (pO 8 [.ref (ad 20 (s).toNat 0), .ref (ad 21 (s).toNat 0), va_rf (if σ.2 32 (s).toNat = -1 then none else some (ad 24 (s).toNat 0)), IV (σ.2 21 (s).toNat)]) from R_10.at 19 (s).toNat 0 ⟨hz, (by omega), rfl⟩) dX1_count_75 ?_
      refine j_astore_n (pc := 78) dX1_count_78 (by decide) (lo' := [some (.ref o), some (IV s), some (IV c), some (.ref (ad 19 (s).toNat 0))]) rfl ?_
      refine j_aload_n (pc := 79) dX1_count_79 rfl ?_
      refine j2_get fa_X1_246_X10 (show h_26 (ad 19 (s).toNat 0) = some (pO 8 [.ref (ad 20 (s).toNat 0), .ref (ad 21 (s).toNat 0), va_rf (if σ.2 32 (s).toNat = -1 then none else some (ad 24 (s).toNat 0)), IV (σ.2 21 (s).toNat)]) from R_10.at 19 (s).toNat 0 ⟨hz, (by omega), rfl⟩) rfl dX1_count_80 ?_
      rcases e_83 : if σ.2 32 (s).toNat = -1 then none else some (ad 24 (s).toNat 0) with _ | a_83
      · refine j_ifnonnullN (pc := 83) dX1_count_83 ?_
        have hset := if_none e_83
        refine j_aload_n (pc := 86) dX1_count_86 rfl ?_
        refine j2_get fa_X1_250_X10 (show h_26 (ad 19 (s).toNat 0) = some (pO 8 [.ref (ad 20 (s).toNat 0), .ref (ad 21 (s).toNat 0), va_rf (if σ.2 32 (s).toNat = -1 then none else some (ad 24 (s).toNat 0)), IV (σ.2 21 (s).toNat)]) from R_10.at 19 (s).toNat 0 ⟨hz, (by omega), rfl⟩) rfl dX1_count_87 ?_
        refine j_callF (pc := 90) (xm := ⟨"java/util/List", "size", "()I"⟩) (l2_size (show h_26 (ad 21 (s).toNat 0) = some (pL (rg (σ.2 31 (s).toNat) (fun n => ad 22 (s).toNat n))) from R_10.at 21 (s).toNat 0 ⟨hz, (by omega), rfl⟩)) (lw_F q155 q159 q161 q47 q163) hfe.1 (ci := 2) rfl rfl mdx_yJ2_size (RC.ofL (show h_26 (ad 21 (s).toNat 0) = some (pL (rg (σ.2 31 (s).toNat) (fun n => ad 22 (s).toNat n))) from R_10.at 21 (s).toNat 0 ⟨hz, (by omega), rfl⟩)) (by decide) (by decide) rfl (Nat.le_of_ble_eq_true rfl) dX1_count_90 (qI.k (fun r_90 s_90 q_90 => ?_))
        obtain ⟨e1q_90, e2q_90⟩ := q_90
        subst s_90
        rw [rg_len (by omega)] at e1q_90
        subst r_90
        refine j_bipush (pc := 95) (a := 8) dX1_count_95 (by decide) ?_
        refine j_icmp_ge (pc := 97) (tgt := 104) dX1_count_97 (by decide) (by omega) (by decide) (fun c_97 => ?_) (fun c_97 => ?_)
        · refine j_iconst (pc := 104) dX1_count_104 rfl ?_
          refine j_room (cl' := 10 + 1) (sl' := 598 + 6) (by omega) (by omega) ?_
          refine j_callSx (pc := 105) (c_allow h_26 hfl RG.of2 hISE 0 (Or.inl rfl)) (lw_S q443 q444 q44 q445) md_yX1_allow (nT _) (fun E x9 hx9 => by obtain ⟨hn9, rfl, rfl⟩ := hx9; (try have hn8 := bI_0 hn9); (try have hs8 := (if_some e_83).1); exact hX _ _ ⟨xE_of 1 (by unfold t2; (repeat' split) <;> omega) rfl, ad, R_10⟩) (by decide) (by decide) rfl (Nat.le_of_ble_eq_true rfl) dX1_count_105 (qV.k (fun s_105 q_105 => ?_))
          exact absurd q_105.1 (by decide)
        · refine j_iconst (pc := 100) dX1_count_100 rfl ?_
          refine j_goto (pc := 101) (tgt := 105) dX1_count_101 (by decide) ?_
          refine j_room (cl' := 10 + 1) (sl' := 598 + 6) (by omega) (by omega) ?_
          refine j_callSx (pc := 105) (c_allow h_26 hfl RG.of2 hISE 1 (Or.inr rfl)) (lw_S q443 q444 q44 q445) md_yX1_allow (nT _) (fun E x9 hx9 => by obtain ⟨hn9, rfl, rfl⟩ := hx9; (try have hn8 := bI_0 hn9); (try have hs8 := (if_some e_83).1); exact hX _ _ ⟨xE_of 1 (by unfold t2; (repeat' split) <;> omega) rfl, ad, R_10⟩) (by decide) (by decide) rfl (Nat.le_of_ble_eq_true rfl) dX1_count_105 (qV.k (fun s_105_1 q_105_1 => ?_))
          obtain ⟨q_105_1b, q_105_1e⟩ := q_105_1
          subst s_105_1
          have h19 : ((s.toNat : Nat) : Int) < σ.1 19 := by omega
          have n33 : 0 ≤ σ.2 33 c.toNat ∧ σ.2 33 c.toNat ≤ 20 := hB.2 33 _
          obtain ⟨m9, hm9⟩ : ∃ m9 : Nat, σ.2 31 s.toNat = (m9 : Int) := ⟨(σ.2 31 s.toNat).toNat, by omega⟩
          refine j_aload_n (pc := 108) dX1_count_108 rfl ?_
          refine j_aload_n (pc := 109) dX1_count_109 rfl ?_
          refine j_iload_n (pc := 110) dX1_count_110 rfl ?_
          refine j_aload_n (pc := 111) dX1_count_111 rfl ?_
          refine j2_get fa_X1_23_X1 (show h_26 (o) = some (pO 0 [.ref (ad 1 0 0), .ref (ad 2 0 0), .ref (ad 3 0 0), .ref (ad 4 0 0), .ref (ad 12 0 0), IV (σ.1 0), .ref (ad 5 0 0), .ref (ad 6 0 0)]) from R_10.top1 hz) rfl dX1_count_112 ?_
          refine j_iload_n (pc := 115) dX1_count_115 rfl ?_
          refine j2_iald (i := c) (show h_26 (ad 4 0 0) = some (pA 0 4 (σ.2 33)) from R_10.at 4 0 0 ⟨rfl, rfl⟩) (by show 0 ≤ c ∧ c < ((4 : Nat) : Int); omega) dX1_count_116 ?_
          have n_11 : 0 ≤ σ.2 33 (c).toNat ∧ σ.2 33 (c).toNat ≤ 20 := hB.2 33 ((c).toNat)
          refine j_room (cl' := 8 + 2) (sl' := 588 + 10) (by omega) (by omega) ?_
          refine j_callV (pc := 117) (c_read h_26 hke hfe hbe hse hne (ad 19 (s).toNat 0) (ad 20 (s).toNat 0) (ad 21 (s).toNat 0) (if σ.2 32 (s).toNat = -1 then none else some (ad 24 (s).toNat 0)) (σ.2 21 (s).toNat) (σ.2 28 (s).toNat) (fun n => σ.2 27 (20 * (s).toNat + n)) (fun i => hB.2 27 _) (by omega) c (σ.2 33 (c).toNat) (by omega) (show h_26 (ad 19 (s).toNat 0) = some (pO 8 [.ref (ad 20 (s).toNat 0), .ref (ad 21 (s).toNat 0), va_rf (if σ.2 32 (s).toNat = -1 then none else some (ad 24 (s).toNat 0)), IV (σ.2 21 (s).toNat)]) from R_10.at 19 (s).toNat 0 ⟨hz, (by omega), rfl⟩) (show h_26 (ad 20 (s).toNat 0) = some (pL (rg (σ.2 28 (s).toNat) (fun n => bx K (σ.2 27 (20 * (s).toNat + n))))) from R_10.at 20 (s).toNat 0 ⟨hz, (by omega), rfl⟩)) (lw_V q1007 q202 q203 q70 q204) rfl md_yX10_read (RC.of2 (show h_26 (ad 19 (s).toNat 0) = some (pO 8 [.ref (ad 20 (s).toNat 0), .ref (ad 21 (s).toNat 0), va_rf (if σ.2 32 (s).toNat = -1 then none else some (ad 24 (s).toNat 0)), IV (σ.2 21 (s).toNat)]) from R_10.at 19 (s).toNat 0 ⟨hz, (by omega), rfl⟩) rfl) (by decide) (by decide) rfl (Nat.le_of_ble_eq_true rfl) dX1_count_117 (qR.k (fun r_117 s_117 q_117 => ?_))
          obtain ⟨nb_117, nq_117, nn_117, ne_117, zq_117, zn_117, ko_117⟩ := q_117
          have fo_r_117 : ∀ k i j, live σ k i j → ad k i j ≠ r_117 := fun k i j hl => R_10.fresh nq_117 hl
          have fo_nb_117 : ∀ k i j, live σ k i j → ad k i j ≠ nb_117 := fun k i j hl => R_10.fresh nn_117 hl
          have Rr117 : Rel K s_117 o ad σ := R_10.other ko_117
          have hbo9 : s_117 (ad 19 s.toNat 0) = some (pO 8 [.ref (ad 20 s.toNat 0), .ref (ad 21 s.toNat 0), .null, IV (σ.2 21 s.toNat)]) := by have h9 : s_117 (ad 19 s.toNat 0) = some (pO 8 [.ref (ad 20 s.toNat 0), .ref (ad 21 s.toNat 0), va_rf (if σ.2 32 s.toNat = -1 then none else some (ad 24 s.toNat 0)), IV (σ.2 21 s.toNat)]) := Rr117.at 19 s.toNat 0 ⟨hz, h19, rfl⟩; rw [if_pos hset] at h9; exact h9
          have hb29 : s_117 (ad 21 s.toNat 0) = some (pL (rg ((m9 : Int)) (fun j => ad 22 s.toNat j))) := by rw [← hm9]; exact Rr117.at 21 s.toNat 0 ⟨hz, h19, rfl⟩
          refine j_room (cl' := 5 + 3) (sl' := 546 + 42) (by omega) (by omega) ?_
          refine j_callV (pc := 120) (c_take s_117 hke hfe hko12 (ad 19 s.toNat 0) (ad 20 s.toNat 0) (ad 21 s.toNat 0) (σ.2 21 s.toNat) m9 (fun j => ad 22 s.toNat j) (fun j => ad 23 s.toNat j) (fun j => σ.2 30 (8 * s.toNat + j)) (fun j => c6 (fun x => σ.2 29 (6 * (8 * s.toNat + j) + x))) r_117 nb_117 c (rdN (fun n => σ.2 27 (20 * (s).toNat + n)) (σ.2 33 (c).toNat) (σ.2 28 (s).toNat).toNat) (by omega) (by omega) (fun j => by have h9 : 0 ≤ σ.2 30 (8 * s.toNat + j) ∧ σ.2 30 (8 * s.toNat + j) ≤ 3 := hB.2 30 _; constructor <;> omega) (fun i => by have h9 := rdN_rng (fun n => σ.2 27 (20 * s.toNat + n)) (σ.2 33 c.toNat) (σ.2 28 s.toNat).toNat i; constructor <;> omega) (fun j i => by show RR (c6 _ i); unfold c6; split; (have h9 : 0 ≤ σ.2 29 (6 * (8 * s.toNat + j) + i) ∧ σ.2 29 (6 * (8 * s.toNat + j) + i) ≤ 20 := hB.2 29 _; show RR (σ.2 29 (6 * (8 * s.toNat + j) + i)); constructor <;> omega); decide) hbo9 hb29 (fun j hj => ⟨Rr117.at 22 s.toNat j ⟨hz, h19, by omega⟩, Rr117.at 23 s.toNat j ⟨hz, h19, by omega⟩⟩) zq_117 zn_117) (lw_V q1008 q1009 q1010 q70 q1011) rfl md_yX10_take (RC.of2 (show s_117 (ad 19 (s).toNat 0) = some (pO 8 [.ref (ad 20 (s).toNat 0), .ref (ad 21 (s).toNat 0), va_rf (if σ.2 32 (s).toNat = -1 then none else some (ad 24 (s).toNat 0)), IV (σ.2 21 (s).toNat)]) from Rr117.at 19 (s).toNat 0 ⟨hz, (by omega), rfl⟩) rfl) (by decide) (by decide) rfl (Nat.le_of_ble_eq_true rfl) dX1_count_120 (qV.k (fun s_120 q_120 => ?_))
          obtain ⟨T1, T2, T3⟩ := q_120
          rcases T3 with ⟨T4, T5⟩ | ⟨T4, cq, cb, T6, T7, T8, T9, T10, T11⟩
          · obtain ⟨t1, to, t30, t31, t29, tx⟩ := sC3_at hB (c := c) hm9
            have hif := sC4_if hB (c := c) hm9 (cc := fun j => σ.2 30 (8 * s.toNat + j)) (ff := fun j => c6 (fun x => σ.2 29 (6 * (8 * s.toNat + j) + x))) (F := rdN (fun n => σ.2 27 (20 * (s).toNat + n)) (σ.2 33 (c).toNat) (σ.2 28 (s).toNat).toNat) (fun _ _ => rfl) (fun _ _ => rfl) rfl
            refine j2_ext (f := rdN (fun n => σ.2 27 (20 * (s).toNat + n)) (σ.2 33 (c).toNat) (σ.2 28 (s).toNat).toNat) (f9 := c6 (fun x => (sC3 σ s.toNat c).2 29 (6 * (8 * s.toNat + m9) + x))) (T2 _ _ zn_117 (Ne.symm (fo_nb_117 19 s.toNat 0 ⟨hz, h19, rfl⟩)) (Ne.symm (fo_nb_117 21 s.toNat 0 ⟨hz, h19, rfl⟩))) (fun j hj => by rw [c6_at hj]; exact (tx j hj).symm) (fun h8 e8 => ?_)
            have R8 : Rel K h8 o (adC ad s.toNat m9 r_117 nb_117) (sC4 σ s.toNat c) := by rw [e8]; exact Rr117.taken1 hI hz h19 hm9 (by omega) fo_r_117 fo_nb_117 ne_117 zq_117 hbo9 T1 T2 T5 (by rw [hif, if_neg (fun ⟨j, hj, h9⟩ => by have h7 := T4 j hj; rw [h7] at h9; exact absurd h9 (by decide))])
            obtain ⟨ad8, hk8, R8⟩ : ∃ ad8, ad8 19 s.toNat 0 = ad 19 s.toNat 0 ∧ Rel K h8 o ad8 (sC4 σ s.toNat c) := ⟨_, rfl, R8⟩
            have hS4 : Bd (sC4 σ s.toNat c) := sC4_bd hB hm9 (by omega) (by omega) (by omega)
            obtain ⟨τ, hτ⟩ : ∃ τ, τ = sC4 σ (s.toNat : Nat) c := ⟨_, rfl⟩
            rw [← hτ] at R8 hS4
            have t1τ : τ.1 = σ.1 := by rw [hτ]; exact sC4_1 σ _ c
            have hzt : τ.1 14 ≠ 0 := by rw [t1τ]; exact hz
            have u0 : τ.1 0 = σ.1 0 := by rw [t1τ]
            have u14 : τ.1 14 = σ.1 14 := by rw [t1τ]
            have u19 : τ.1 19 = σ.1 19 := by rw [t1τ]
            have u42 : τ.1 42 = σ.1 42 := by rw [t1τ]
            have u26 : τ.1 26 = σ.1 26 := by rw [t1τ]
            rw [← hk8]
            refine j_aload_n (pc := 123) dX1_count_123 rfl ?_
            refine j2_get fa_X1_58_X1 (show h8 (o) = some (pO 0 [.ref (ad8 1 0 0), .ref (ad8 2 0 0), .ref (ad8 3 0 0), .ref (ad8 4 0 0), .ref (ad8 12 0 0), IV (τ.1 0), .ref (ad8 5 0 0), .ref (ad8 6 0 0)]) from R8.top1 hzt) rfl dX1_count_124 ?_
            refine j_aload_n (pc := 127) dX1_count_127 rfl ?_
            refine j2_get fa_X1_110_X1 (show h8 (o) = some (pO 0 [.ref (ad8 1 0 0), .ref (ad8 2 0 0), .ref (ad8 3 0 0), .ref (ad8 4 0 0), .ref (ad8 12 0 0), IV (τ.1 0), .ref (ad8 5 0 0), .ref (ad8 6 0 0)]) from R8.top1 hzt) rfl dX1_count_128 ?_
            have n_12 : 0 ≤ τ.1 0 ∧ τ.1 0 ≤ 2100 := hS4.1 0
            refine j_bipush (pc := 131) (a := 99) dX1_count_131 (by decide) ?_
            refine j_iload_n (pc := 133) dX1_count_133 rfl ?_
            refine j_room (cl' := 3 + 2) (sl' := 26 + 520) (by omega) (by omega) ?_
            refine j_callV (pc := 134) (c_note h8 hke hfe hko8 o ad8 τ R8 hS4 hzt (by show τ.1 42 ≤ 250; omega) (τ.1 0) 99 s ⟨rfl, rfl⟩) (lw_V q901 q648 q649 q69 q650) rfl md_yX9_note (RC.of2 (show h8 (ad8 12 0 0) = some (pO 7 [IV (τ.1 15), IV (τ.1 16), IV (τ.1 17), .ref (ad8 13 0 0), .ref (ad8 14 0 0), .ref (ad8 15 0 0), .ref (ad8 16 0 0), .ref (ad8 17 0 0), .ref (ad8 18 0 0), IV (τ.1 14)]) from R8.at 12 0 0 ⟨hzt, rfl, rfl⟩) rfl) (by decide) (by decide) rfl (Nat.le_of_ble_eq_true rfl) dX1_count_134 (qV.k (fun s_134 q_134 => ?_))
            obtain ⟨ad_134, hk_134, R_n134⟩ := q_134
            rw [← hk_134 19 s.toNat 0 (by decide)]
            refine j_aload_n (pc := 137) dX1_count_137 rfl ?_
            refine j2_get fa_X1_58_X1 (show s_134 (o) = some (pO 0 [.ref (ad_134 1 0 0), .ref (ad_134 2 0 0), .ref (ad_134 3 0 0), .ref (ad_134 4 0 0), .ref (ad_134 12 0 0), IV (τ.1 0), .ref (ad_134 5 0 0), .ref (ad_134 6 0 0)]) from R_n134.top1 hzt) rfl dX1_count_138 ?_
            refine j_aload_n (pc := 141) dX1_count_141 rfl ?_
            refine j2_get fa_X1_58_X1 (show s_134 (o) = some (pO 0 [.ref (ad_134 1 0 0), .ref (ad_134 2 0 0), .ref (ad_134 3 0 0), .ref (ad_134 4 0 0), .ref (ad_134 12 0 0), IV (τ.1 0), .ref (ad_134 5 0 0), .ref (ad_134 6 0 0)]) from R_n134.top1 hzt) rfl dX1_count_142 ?_
            refine j_callV (pc := 145) (c_allSet s_134 hfe o ad_134 (sNote τ (τ.1 0) 99 s) R_n134 (Bd.note hS4 (by omega) (by omega) (by omega) (by show τ.1 42 < 1000; omega)) hzt) (lw_V q1022 q1023 q1024 q69 q1025) rfl md_yX9_isSettled (RC.of2 (show s_134 (ad_134 12 0 0) = some (pO 7 [IV (τ.1 15), IV (τ.1 16), IV (τ.1 17), .ref (ad_134 13 0 0), .ref (ad_134 14 0 0), .ref (ad_134 15 0 0), .ref (ad_134 16 0 0), .ref (ad_134 17 0 0), .ref (ad_134 18 0 0), IV (τ.1 14)]) from R_n134.at 12 0 0 ⟨hzt, rfl, rfl⟩) rfl) (by decide) (by decide) rfl (Nat.le_of_ble_eq_true rfl) dX1_count_145 (qI.k (fun r_145 s_145 q_145 => ?_))
            obtain ⟨e1q_145, e2q_145⟩ := q_145
            subst r_145
            subst s_145
            have rs_145 := sAll_01 (sNote τ (τ.1 0) 99 s) ((sNote τ (τ.1 0) 99 s).1 19).toNat
            refine j_if_eq (pc := 148) (tgt := 155) dX1_count_148 (by decide) (by omega) (fun c_148 => ?_) (fun c_148 => ?_)
            · refine j_iconst (pc := 155) dX1_count_155 rfl ?_
              refine j2_put fp_X1_170_X9 (show s_134 (ad_134 12 0 0) = some (pO 7 [IV (τ.1 15), IV (τ.1 16), IV (τ.1 17), .ref (ad_134 13 0 0), .ref (ad_134 14 0 0), .ref (ad_134 15 0 0), .ref (ad_134 16 0 0), .ref (ad_134 17 0 0), .ref (ad_134 18 0 0), IV (τ.1 14)]) from R_n134.at 12 0 0 ⟨hzt, rfl, rfl⟩) (by decide) (Nat.le_of_ble_eq_true rfl) rfl rfl dX1_count_156 (fun h_156 e_156 => ?_)
              have z_13 : h_156 (ad_134 12 0 0) = some (pO 7 [IV (τ.1 15), IV (τ.1 16), IV (τ.1 17), .ref (ad_134 13 0 0), .ref (ad_134 14 0 0), .ref (ad_134 15 0 0), .ref (ad_134 16 0 0), .ref (ad_134 17 0 0), .ref (ad_134 18 0 0), IV 4]) := by rw [e_156]; exact upH_self _ _ _
              have R_14 : Rel K h_156 o ad_134 (setI (sNote τ (τ.1 0) 99 s) 14 4) := R_n134.stage hzt (by decide) e_156
              refine j_aload_n (pc := 159) dX1_count_159 rfl ?_
              refine j2_get fa_X1_246_X10 (show h_156 (ad_134 19 (s).toNat 0) = some (pO 8 [.ref (ad_134 20 (s).toNat 0), .ref (ad_134 21 (s).toNat 0), va_rf (if τ.2 32 (s).toNat = -1 then none else some (ad_134 24 (s).toNat 0)), IV (τ.2 21 (s).toNat)]) from R_14.at 19 (s).toNat 0 ⟨(show (4 : Int) ≠ 0 by decide), (by show (_ : Int) < τ.1 19; omega), rfl⟩) rfl dX1_count_160 ?_
              rcases e_163 : if τ.2 32 (s).toNat = -1 then none else some (ad_134 24 (s).toNat 0) with _ | a_163
              · refine j_ifnullN (pc := 163) (tgt := 170) dX1_count_163 (by decide) ?_
                refine j_iconst (pc := 170) dX1_count_170 rfl ?_
                refine j_zret (pc := 171) rfl (Or.inl rfl) (hQ _ _ ?_) dX1_count_171
                have ep : ((s.toNat : Nat) : Int) = s := by omega
                have h9 := R_14
                rw [ep] at hτ
                have e5 : sC5 σ s c = sNote τ (σ.1 0) 99 s := by unfold sC5; rw [← hτ, u0]
                have eC : sCount σ s c = setI (sNote τ (σ.1 0) 99 s) 14 4 := by unfold sCount; rw [e5]; rw [if_neg (by rw [← u0]; show ¬ sAll (sNote τ (τ.1 0) 99 s) ((sNote τ (τ.1 0) 99 s).1 19).toNat = 1; omega), show (sNote τ (σ.1 0) 99 s).1 14 = 4 from u14.trans (by omega)]
                have e32 : (sCount σ s c).2 32 s.toNat = τ.2 32 s.toNat := by rw [eC]; rfl
                rw [u0] at h9
                exact ⟨by unfold t2; (repeat' split) <;> omega, by rw [e32]; rw [bI_f (fun z => z (if_none e_163))], ad_134, by rw [eC]; exact h9⟩
              · refine j_ifnull (pc := 163) dX1_count_163 ?_
                refine j_iconst (pc := 166) dX1_count_166 rfl ?_
                refine j_goto (pc := 167) (tgt := 171) dX1_count_167 (by decide) ?_
                refine j_zret (pc := 171) rfl (Or.inr rfl) (hQ _ _ ?_) dX1_count_171
                have ep : ((s.toNat : Nat) : Int) = s := by omega
                have h9 := R_14
                rw [ep] at hτ
                have e5 : sC5 σ s c = sNote τ (σ.1 0) 99 s := by unfold sC5; rw [← hτ, u0]
                have eC : sCount σ s c = setI (sNote τ (σ.1 0) 99 s) 14 4 := by unfold sCount; rw [e5]; rw [if_neg (by rw [← u0]; show ¬ sAll (sNote τ (τ.1 0) 99 s) ((sNote τ (τ.1 0) 99 s).1 19).toNat = 1; omega), show (sNote τ (σ.1 0) 99 s).1 14 = 4 from u14.trans (by omega)]
                have e32 : (sCount σ s c).2 32 s.toNat = τ.2 32 s.toNat := by rw [eC]; rfl
                rw [u0] at h9
                exact ⟨by unfold t2; (repeat' split) <;> omega, by rw [e32]; rw [bI_t (if_some e_163).1], ad_134, by rw [eC]; exact h9⟩
            · refine j_iconst (pc := 151) dX1_count_151 rfl ?_
              refine j_goto (pc := 152) (tgt := 156) dX1_count_152 (by decide) ?_
              refine j2_put fp_X1_170_X9 (show s_134 (ad_134 12 0 0) = some (pO 7 [IV (τ.1 15), IV (τ.1 16), IV (τ.1 17), .ref (ad_134 13 0 0), .ref (ad_134 14 0 0), .ref (ad_134 15 0 0), .ref (ad_134 16 0 0), .ref (ad_134 17 0 0), .ref (ad_134 18 0 0), IV (τ.1 14)]) from R_n134.at 12 0 0 ⟨hzt, rfl, rfl⟩) (by decide) (Nat.le_of_ble_eq_true rfl) rfl rfl dX1_count_156 (fun h_156_1 e_156_1 => ?_)
              have z_15 : h_156_1 (ad_134 12 0 0) = some (pO 7 [IV (τ.1 15), IV (τ.1 16), IV (τ.1 17), .ref (ad_134 13 0 0), .ref (ad_134 14 0 0), .ref (ad_134 15 0 0), .ref (ad_134 16 0 0), .ref (ad_134 17 0 0), .ref (ad_134 18 0 0), IV 5]) := by rw [e_156_1]; exact upH_self _ _ _
              have R_16 : Rel K h_156_1 o ad_134 (setI (sNote τ (τ.1 0) 99 s) 14 5) := R_n134.stage hzt (by decide) e_156_1
              refine j_aload_n (pc := 159) dX1_count_159 rfl ?_
              refine j2_get fa_X1_246_X10 (show h_156_1 (ad_134 19 (s).toNat 0) = some (pO 8 [.ref (ad_134 20 (s).toNat 0), .ref (ad_134 21 (s).toNat 0), va_rf (if τ.2 32 (s).toNat = -1 then none else some (ad_134 24 (s).toNat 0)), IV (τ.2 21 (s).toNat)]) from R_16.at 19 (s).toNat 0 ⟨(show (5 : Int) ≠ 0 by decide), (by show (_ : Int) < τ.1 19; omega), rfl⟩) rfl dX1_count_160 ?_
              rcases e_163 : if τ.2 32 (s).toNat = -1 then none else some (ad_134 24 (s).toNat 0) with _ | a_163
              · refine j_ifnullN (pc := 163) (tgt := 170) dX1_count_163 (by decide) ?_
                refine j_iconst (pc := 170) dX1_count_170 rfl ?_
                refine j_zret (pc := 171) rfl (Or.inl rfl) (hQ _ _ ?_) dX1_count_171
                have ep : ((s.toNat : Nat) : Int) = s := by omega
                have h9 := R_16
                rw [ep] at hτ
                have e5 : sC5 σ s c = sNote τ (σ.1 0) 99 s := by unfold sC5; rw [← hτ, u0]
                have eC : sCount σ s c = setI (sNote τ (σ.1 0) 99 s) 14 5 := by unfold sCount; rw [e5]; rw [if_pos (by rw [← u0]; show sAll (sNote τ (τ.1 0) 99 s) ((sNote τ (τ.1 0) 99 s).1 19).toNat = 1; omega)]
                have e32 : (sCount σ s c).2 32 s.toNat = τ.2 32 s.toNat := by rw [eC]; rfl
                rw [u0] at h9
                exact ⟨by unfold t2; (repeat' split) <;> omega, by rw [e32]; rw [bI_f (fun z => z (if_none e_163))], ad_134, by rw [eC]; exact h9⟩
              · refine j_ifnull (pc := 163) dX1_count_163 ?_
                refine j_iconst (pc := 166) dX1_count_166 rfl ?_
                refine j_goto (pc := 167) (tgt := 171) dX1_count_167 (by decide) ?_
                refine j_zret (pc := 171) rfl (Or.inr rfl) (hQ _ _ ?_) dX1_count_171
                have ep : ((s.toNat : Nat) : Int) = s := by omega
                have h9 := R_16
                rw [ep] at hτ
                have e5 : sC5 σ s c = sNote τ (σ.1 0) 99 s := by unfold sC5; rw [← hτ, u0]
                have eC : sCount σ s c = setI (sNote τ (σ.1 0) 99 s) 14 5 := by unfold sCount; rw [e5]; rw [if_pos (by rw [← u0]; show sAll (sNote τ (τ.1 0) 99 s) ((sNote τ (τ.1 0) 99 s).1 19).toNat = 1; omega)]
                have e32 : (sCount σ s c).2 32 s.toNat = τ.2 32 s.toNat := by rw [eC]; rfl
                rw [u0] at h9
                exact ⟨by unfold t2; (repeat' split) <;> omega, by rw [e32]; rw [bI_t (if_some e_163).1], ad_134, by rw [eC]; exact h9⟩
          · obtain ⟨t1, to, t30, t31, t29, tx⟩ := sC3_at hB (c := c) hm9
            have hif := sC4_if hB (c := c) hm9 (cc := fun j => σ.2 30 (8 * s.toNat + j)) (ff := fun j => c6 (fun x => σ.2 29 (6 * (8 * s.toNat + j) + x))) (F := rdN (fun n => σ.2 27 (20 * (s).toNat + n)) (σ.2 33 (c).toNat) (σ.2 28 (s).toNat).toNat) (fun _ _ => rfl) (fun _ _ => rfl) rfl
            refine j2_ext (f := rdN (fun n => σ.2 27 (20 * (s).toNat + n)) (σ.2 33 (c).toNat) (σ.2 28 (s).toNat).toNat) (f9 := c6 (fun x => (sC3 σ s.toNat c).2 29 (6 * (8 * s.toNat + m9) + x))) (T2 _ _ zn_117 (Ne.symm (fo_nb_117 19 s.toNat 0 ⟨hz, h19, rfl⟩)) (Ne.symm (fo_nb_117 21 s.toNat 0 ⟨hz, h19, rfl⟩))) (fun j hj => by rw [c6_at hj]; exact (tx j hj).symm) (fun h7 e7 => ?_)
            have nbn : cb ≠ nb_117 := fun e => by rw [e, zn_117] at T7; cases T7
            refine j2_ext (a := cb) (f := rdN (fun n => σ.2 27 (20 * (s).toNat + n)) (σ.2 33 (c).toNat) (σ.2 28 (s).toNat).toNat) (f9 := c6 (fun x => (sC3 σ s.toNat c).2 29 (6 * (8 * s.toNat + m9) + x))) (by rw [e7, upH_ne nbn]; exact T10) (fun j hj => by rw [c6_at hj]; exact (tx j hj).symm) (fun h8 e8 => ?_)
            have R8 : Rel K h8 o (adS (adC ad s.toNat m9 r_117 nb_117) s.toNat cq cb) (sC4 σ s.toNat c) := by rw [e8, e7]; exact Rr117.taken2 hI hz h19 hm9 (by omega) fo_r_117 fo_nb_117 ne_117 zq_117 zn_117 hset T1 T2 T6 T7 T8 T9 T11 (by rw [hif, if_pos T4])
            obtain ⟨ad8, hk8, R8⟩ : ∃ ad8, ad8 19 s.toNat 0 = ad 19 s.toNat 0 ∧ Rel K h8 o ad8 (sC4 σ s.toNat c) := ⟨_, rfl, R8⟩
            have hS4 : Bd (sC4 σ s.toNat c) := sC4_bd hB hm9 (by omega) (by omega) (by omega)
            obtain ⟨τ, hτ⟩ : ∃ τ, τ = sC4 σ (s.toNat : Nat) c := ⟨_, rfl⟩
            rw [← hτ] at R8 hS4
            have t1τ : τ.1 = σ.1 := by rw [hτ]; exact sC4_1 σ _ c
            have hzt : τ.1 14 ≠ 0 := by rw [t1τ]; exact hz
            have u0 : τ.1 0 = σ.1 0 := by rw [t1τ]
            have u14 : τ.1 14 = σ.1 14 := by rw [t1τ]
            have u19 : τ.1 19 = σ.1 19 := by rw [t1τ]
            have u42 : τ.1 42 = σ.1 42 := by rw [t1τ]
            have u26 : τ.1 26 = σ.1 26 := by rw [t1τ]
            rw [← hk8]
            refine j_aload_n (pc := 123) dX1_count_123 rfl ?_
            refine j2_get fa_X1_58_X1 (show h8 (o) = some (pO 0 [.ref (ad8 1 0 0), .ref (ad8 2 0 0), .ref (ad8 3 0 0), .ref (ad8 4 0 0), .ref (ad8 12 0 0), IV (τ.1 0), .ref (ad8 5 0 0), .ref (ad8 6 0 0)]) from R8.top1 hzt) rfl dX1_count_124 ?_
            refine j_aload_n (pc := 127) dX1_count_127 rfl ?_
            refine j2_get fa_X1_110_X1 (show h8 (o) = some (pO 0 [.ref (ad8 1 0 0), .ref (ad8 2 0 0), .ref (ad8 3 0 0), .ref (ad8 4 0 0), .ref (ad8 12 0 0), IV (τ.1 0), .ref (ad8 5 0 0), .ref (ad8 6 0 0)]) from R8.top1 hzt) rfl dX1_count_128 ?_
            have n_17 : 0 ≤ τ.1 0 ∧ τ.1 0 ≤ 2100 := hS4.1 0
            refine j_bipush (pc := 131) (a := 99) dX1_count_131 (by decide) ?_
            refine j_iload_n (pc := 133) dX1_count_133 rfl ?_
            refine j_room (cl' := 3 + 2) (sl' := 26 + 520) (by omega) (by omega) ?_
            refine j_callV (pc := 134) (c_note h8 hke hfe hko8 o ad8 τ R8 hS4 hzt (by show τ.1 42 ≤ 250; omega) (τ.1 0) 99 s ⟨rfl, rfl⟩) (lw_V q901 q648 q649 q69 q650) rfl md_yX9_note (RC.of2 (show h8 (ad8 12 0 0) = some (pO 7 [IV (τ.1 15), IV (τ.1 16), IV (τ.1 17), .ref (ad8 13 0 0), .ref (ad8 14 0 0), .ref (ad8 15 0 0), .ref (ad8 16 0 0), .ref (ad8 17 0 0), .ref (ad8 18 0 0), IV (τ.1 14)]) from R8.at 12 0 0 ⟨hzt, rfl, rfl⟩) rfl) (by decide) (by decide) rfl (Nat.le_of_ble_eq_true rfl) dX1_count_134 (qV.k (fun s_134_1 q_134_1 => ?_))
            obtain ⟨ad_134, hk_134, R_n134⟩ := q_134_1
            rw [← hk_134 19 s.toNat 0 (by decide)]
            refine j_aload_n (pc := 137) dX1_count_137 rfl ?_
            refine j2_get fa_X1_58_X1 (show s_134_1 (o) = some (pO 0 [.ref (ad_134 1 0 0), .ref (ad_134 2 0 0), .ref (ad_134 3 0 0), .ref (ad_134 4 0 0), .ref (ad_134 12 0 0), IV (τ.1 0), .ref (ad_134 5 0 0), .ref (ad_134 6 0 0)]) from R_n134.top1 hzt) rfl dX1_count_138 ?_
            refine j_aload_n (pc := 141) dX1_count_141 rfl ?_
            refine j2_get fa_X1_58_X1 (show s_134_1 (o) = some (pO 0 [.ref (ad_134 1 0 0), .ref (ad_134 2 0 0), .ref (ad_134 3 0 0), .ref (ad_134 4 0 0), .ref (ad_134 12 0 0), IV (τ.1 0), .ref (ad_134 5 0 0), .ref (ad_134 6 0 0)]) from R_n134.top1 hzt) rfl dX1_count_142 ?_
            refine j_callV (pc := 145) (c_allSet s_134_1 hfe o ad_134 (sNote τ (τ.1 0) 99 s) R_n134 (Bd.note hS4 (by omega) (by omega) (by omega) (by show τ.1 42 < 1000; omega)) hzt) (lw_V q1022 q1023 q1024 q69 q1025) rfl md_yX9_isSettled (RC.of2 (show s_134_1 (ad_134 12 0 0) = some (pO 7 [IV (τ.1 15), IV (τ.1 16), IV (τ.1 17), .ref (ad_134 13 0 0), .ref (ad_134 14 0 0), .ref (ad_134 15 0 0), .ref (ad_134 16 0 0), .ref (ad_134 17 0 0), .ref (ad_134 18 0 0), IV (τ.1 14)]) from R_n134.at 12 0 0 ⟨hzt, rfl, rfl⟩) rfl) (by decide) (by decide) rfl (Nat.le_of_ble_eq_true rfl) dX1_count_145 (qI.k (fun r_145_1 s_145_1 q_145_1 => ?_))
            obtain ⟨e1q_145_1, e2q_145_1⟩ := q_145_1
            subst r_145_1
            subst s_145_1
            have rs_145 := sAll_01 (sNote τ (τ.1 0) 99 s) ((sNote τ (τ.1 0) 99 s).1 19).toNat
            refine j_if_eq (pc := 148) (tgt := 155) dX1_count_148 (by decide) (by omega) (fun c_148_1 => ?_) (fun c_148_1 => ?_)
            · refine j_iconst (pc := 155) dX1_count_155 rfl ?_
              refine j2_put fp_X1_170_X9 (show s_134_1 (ad_134 12 0 0) = some (pO 7 [IV (τ.1 15), IV (τ.1 16), IV (τ.1 17), .ref (ad_134 13 0 0), .ref (ad_134 14 0 0), .ref (ad_134 15 0 0), .ref (ad_134 16 0 0), .ref (ad_134 17 0 0), .ref (ad_134 18 0 0), IV (τ.1 14)]) from R_n134.at 12 0 0 ⟨hzt, rfl, rfl⟩) (by decide) (Nat.le_of_ble_eq_true rfl) rfl rfl dX1_count_156 (fun h_156_1 e_156_1 => ?_)
              have z_18 : h_156_1 (ad_134 12 0 0) = some (pO 7 [IV (τ.1 15), IV (τ.1 16), IV (τ.1 17), .ref (ad_134 13 0 0), .ref (ad_134 14 0 0), .ref (ad_134 15 0 0), .ref (ad_134 16 0 0), .ref (ad_134 17 0 0), .ref (ad_134 18 0 0), IV 4]) := by rw [e_156_1]; exact upH_self _ _ _
              have R_19 : Rel K h_156_1 o ad_134 (setI (sNote τ (τ.1 0) 99 s) 14 4) := R_n134.stage hzt (by decide) e_156_1
              refine j_aload_n (pc := 159) dX1_count_159 rfl ?_
              refine j2_get fa_X1_246_X10 (show h_156_1 (ad_134 19 (s).toNat 0) = some (pO 8 [.ref (ad_134 20 (s).toNat 0), .ref (ad_134 21 (s).toNat 0), va_rf (if τ.2 32 (s).toNat = -1 then none else some (ad_134 24 (s).toNat 0)), IV (τ.2 21 (s).toNat)]) from R_19.at 19 (s).toNat 0 ⟨(show (4 : Int) ≠ 0 by decide), (by show (_ : Int) < τ.1 19; omega), rfl⟩) rfl dX1_count_160 ?_
              rcases e_163 : if τ.2 32 (s).toNat = -1 then none else some (ad_134 24 (s).toNat 0) with _ | a_163
              · refine j_ifnullN (pc := 163) (tgt := 170) dX1_count_163 (by decide) ?_
                refine j_iconst (pc := 170) dX1_count_170 rfl ?_
                refine j_zret (pc := 171) rfl (Or.inl rfl) (hQ _ _ ?_) dX1_count_171
                have ep : ((s.toNat : Nat) : Int) = s := by omega
                have h9 := R_19
                rw [ep] at hτ
                have e5 : sC5 σ s c = sNote τ (σ.1 0) 99 s := by unfold sC5; rw [← hτ, u0]
                have eC : sCount σ s c = setI (sNote τ (σ.1 0) 99 s) 14 4 := by unfold sCount; rw [e5]; rw [if_neg (by rw [← u0]; show ¬ sAll (sNote τ (τ.1 0) 99 s) ((sNote τ (τ.1 0) 99 s).1 19).toNat = 1; omega), show (sNote τ (σ.1 0) 99 s).1 14 = 4 from u14.trans (by omega)]
                have e32 : (sCount σ s c).2 32 s.toNat = τ.2 32 s.toNat := by rw [eC]; rfl
                rw [u0] at h9
                exact ⟨by unfold t2; (repeat' split) <;> omega, by rw [e32]; rw [bI_f (fun z => z (if_none e_163))], ad_134, by rw [eC]; exact h9⟩
              · refine j_ifnull (pc := 163) dX1_count_163 ?_
                refine j_iconst (pc := 166) dX1_count_166 rfl ?_
                refine j_goto (pc := 167) (tgt := 171) dX1_count_167 (by decide) ?_
                refine j_zret (pc := 171) rfl (Or.inr rfl) (hQ _ _ ?_) dX1_count_171
                have ep : ((s.toNat : Nat) : Int) = s := by omega
                have h9 := R_19
                rw [ep] at hτ
                have e5 : sC5 σ s c = sNote τ (σ.1 0) 99 s := by unfold sC5; rw [← hτ, u0]
                have eC : sCount σ s c = setI (sNote τ (σ.1 0) 99 s) 14 4 := by unfold sCount; rw [e5]; rw [if_neg (by rw [← u0]; show ¬ sAll (sNote τ (τ.1 0) 99 s) ((sNote τ (τ.1 0) 99 s).1 19).toNat = 1; omega), show (sNote τ (σ.1 0) 99 s).1 14 = 4 from u14.trans (by omega)]
                have e32 : (sCount σ s c).2 32 s.toNat = τ.2 32 s.toNat := by rw [eC]; rfl
                rw [u0] at h9
                exact ⟨by unfold t2; (repeat' split) <;> omega, by rw [e32]; rw [bI_t (if_some e_163).1], ad_134, by rw [eC]; exact h9⟩
            · refine j_iconst (pc := 151) dX1_count_151 rfl ?_
              refine j_goto (pc := 152) (tgt := 156) dX1_count_152 (by decide) ?_
              refine j2_put fp_X1_170_X9 (show s_134_1 (ad_134 12 0 0) = some (pO 7 [IV (τ.1 15), IV (τ.1 16), IV (τ.1 17), .ref (ad_134 13 0 0), .ref (ad_134 14 0 0), .ref (ad_134 15 0 0), .ref (ad_134 16 0 0), .ref (ad_134 17 0 0), .ref (ad_134 18 0 0), IV (τ.1 14)]) from R_n134.at 12 0 0 ⟨hzt, rfl, rfl⟩) (by decide) (Nat.le_of_ble_eq_true rfl) rfl rfl dX1_count_156 (fun h_156_1 e_156_1 => ?_)
              have z_20 : h_156_1 (ad_134 12 0 0) = some (pO 7 [IV (τ.1 15), IV (τ.1 16), IV (τ.1 17), .ref (ad_134 13 0 0), .ref (ad_134 14 0 0), .ref (ad_134 15 0 0), .ref (ad_134 16 0 0), .ref (ad_134 17 0 0), .ref (ad_134 18 0 0), IV 5]) := by rw [e_156_1]; exact upH_self _ _ _
              have R_21 : Rel K h_156_1 o ad_134 (setI (sNote τ (τ.1 0) 99 s) 14 5) := R_n134.stage hzt (by decide) e_156_1
              refine j_aload_n (pc := 159) dX1_count_159 rfl ?_
              refine j2_get fa_X1_246_X10 (show h_156_1 (ad_134 19 (s).toNat 0) = some (pO 8 [.ref (ad_134 20 (s).toNat 0), .ref (ad_134 21 (s).toNat 0), va_rf (if τ.2 32 (s).toNat = -1 then none else some (ad_134 24 (s).toNat 0)), IV (τ.2 21 (s).toNat)]) from R_21.at 19 (s).toNat 0 ⟨(show (5 : Int) ≠ 0 by decide), (by show (_ : Int) < τ.1 19; omega), rfl⟩) rfl dX1_count_160 ?_
              rcases e_163 : if τ.2 32 (s).toNat = -1 then none else some (ad_134 24 (s).toNat 0) with _ | a_163
              · refine j_ifnullN (pc := 163) (tgt := 170) dX1_count_163 (by decide) ?_
                refine j_iconst (pc := 170) dX1_count_170 rfl ?_
                refine j_zret (pc := 171) rfl (Or.inl rfl) (hQ _ _ ?_) dX1_count_171
                have ep : ((s.toNat : Nat) : Int) = s := by omega
                have h9 := R_21
                rw [ep] at hτ
                have e5 : sC5 σ s c = sNote τ (σ.1 0) 99 s := by unfold sC5; rw [← hτ, u0]
                have eC : sCount σ s c = setI (sNote τ (σ.1 0) 99 s) 14 5 := by unfold sCount; rw [e5]; rw [if_pos (by rw [← u0]; show sAll (sNote τ (τ.1 0) 99 s) ((sNote τ (τ.1 0) 99 s).1 19).toNat = 1; omega)]
                have e32 : (sCount σ s c).2 32 s.toNat = τ.2 32 s.toNat := by rw [eC]; rfl
                rw [u0] at h9
                exact ⟨by unfold t2; (repeat' split) <;> omega, by rw [e32]; rw [bI_f (fun z => z (if_none e_163))], ad_134, by rw [eC]; exact h9⟩
              · refine j_ifnull (pc := 163) dX1_count_163 ?_
                refine j_iconst (pc := 166) dX1_count_166 rfl ?_
                refine j_goto (pc := 167) (tgt := 171) dX1_count_167 (by decide) ?_
                refine j_zret (pc := 171) rfl (Or.inr rfl) (hQ _ _ ?_) dX1_count_171
                have ep : ((s.toNat : Nat) : Int) = s := by omega
                have h9 := R_21
                rw [ep] at hτ
                have e5 : sC5 σ s c = sNote τ (σ.1 0) 99 s := by unfold sC5; rw [← hτ, u0]
                have eC : sCount σ s c = setI (sNote τ (σ.1 0) 99 s) 14 5 := by unfold sCount; rw [e5]; rw [if_pos (by rw [← u0]; show sAll (sNote τ (τ.1 0) 99 s) ((sNote τ (τ.1 0) 99 s).1 19).toNat = 1; omega)]
                have e32 : (sCount σ s c).2 32 s.toNat = τ.2 32 s.toNat := by rw [eC]; rfl
                rw [u0] at h9
                exact ⟨by unfold t2; (repeat' split) <;> omega, by rw [e32]; rw [bI_t (if_some e_163).1], ad_134, by rw [eC]; exact h9⟩
      · refine j_ifnonnull (pc := 83) (tgt := 104) dX1_count_83 (by decide) ?_
        refine j_iconst (pc := 104) dX1_count_104 rfl ?_
        refine j_room (cl' := 10 + 1) (sl' := 598 + 6) (by omega) (by omega) ?_
        refine j_callSx (pc := 105) (c_allow h_26 hfl RG.of2 hISE 0 (Or.inl rfl)) (lw_S q443 q444 q44 q445) md_yX1_allow (nT _) (fun E x9 hx9 => by obtain ⟨hn9, rfl, rfl⟩ := hx9; (try have hn8 := bI_0 hn9); (try have hs8 := (if_some e_83).1); exact hX _ _ ⟨xE_of 1 (by unfold t2; (repeat' split) <;> omega) rfl, ad, R_10⟩) (by decide) (by decide) rfl (Nat.le_of_ble_eq_true rfl) dX1_count_105 (qV.k (fun s_105_1 q_105_1 => ?_))
        exact absurd q_105_1.1 (by decide)

