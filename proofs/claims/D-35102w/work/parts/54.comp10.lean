set_option maxRecDepth 100000
/-- the words of nest mates -/
def NE (Γ : GG) : Prop := (∀ (s : State) (H : Heap), Γ.2.2 s H → va_Nw (.methodLinkNest "BallotFoundry" 69 yX10_init "BallotFoundry") s) ∧ (∀ (s : State) (H : Heap), Γ.2.2 s H → va_Nw (.fieldLinkNest "BallotFoundry$Box" 34 "BallotFoundry" "SLIPPED" "[I" "BallotFoundry") s) ∧ (∀ (s : State) (H : Heap), Γ.2.2 s H → va_Nw (.fieldLinkNest "BallotFoundry" 281 "BallotFoundry$House" "votes" "[I" "BallotFoundry") s) ∧ (∀ (s : State) (H : Heap), Γ.2.2 s H → va_Nw (.fieldLinkNest "BallotFoundry" 284 "BallotFoundry$House" "seats" "[I" "BallotFoundry") s) ∧ (∀ (s : State) (H : Heap), Γ.2.2 s H → va_Nw (.fieldLinkNest "BallotFoundry" 289 "BallotFoundry$House" "given" "[I" "BallotFoundry") s) ∧ (∀ (s : State) (H : Heap), Γ.2.2 s H → va_Nw (.fieldLinkNest "BallotFoundry" 286 "BallotFoundry$House" "many" "I" "BallotFoundry") s) ∧ ∀ (s : State) (H : Heap), Γ.2.2 s H → va_Nw (.fieldLinkNest "BallotFoundry" 292 "BallotFoundry$House" "lots" "I" "BallotFoundry") s
section J10
variable {S : Type} {Γ : GG} {A : Nat → Prop} {Rep : S → Heap → Prop} {l : Launch} {own nm : String} {cc : ByteArray} {nL : Nat} {ret : Option FieldType} {hh : List (Nat × Nat × Nat × Nat)} {d mc ms : Nat} {QP : Option Value → S → Prop} {XP : String → S → Prop} {cl sl : Nat} {x : S} {pc : Nat} {lo : List (Option Value)} {st : List Value}
/-- a private constructor of a nest mate -/
theorem j_callIN {QP' : Option Value → S → Prop} {y : MethodName} {host : String} {bytes : ByteArray} {maxL d' mc' ms' idx : Nat} {b : Nat} {As rest : List Value} (hM : Ct Γ A Rep l y (ws_ y bytes maxL none) d' mc' ms' (.ref b :: As) x QP' X0) (hG : GoodIn lw_all (ws_ y bytes maxL none)) (q1 : Cond.initialized y.cls ∈ lw_all) (q2 : ∀ (s : State) (H : Heap), Γ.2.2 s H → va_Nw (.methodLinkNest own idx y host) s) (q3 : Cond.instanceMethod y ∈ lw_all) (hy1 : y.name = "<init>") (hm : MD y As.length) (hd : d' + 1 ≤ d) (hL : maxL ≤ 80) (hst : st = As.reverse ++ .ref b :: rest) (hrest : (rest.map fun v => v.category).sum ≤ 8) (hdg : decode cc pc = .ok (.invokespecial idx, 3))
    (kk : ∀ (v : Option Value) (x' : S), QP' v x' → J Γ A Rep l own nm cc nL ret hh d mc ms QP XP cl sl x' (pc + 3) lo (v.toList ++ rest)) : J Γ A Rep l own nm cc nL ret hh d mc ms QP XP (cl + mc') (sl + ms') x pc lo st := by
  intro p e s m args below meth c H locs ls k n F hR hS hl h1 h2
  subst hst
  have hts := F.2.2.2.2.2.2.1
  have hK := F.2.2.2.2.2.2.2.2.1
  refine jw_back (vx_runIN (host := host) (As := As) (rest := rest) (b := b) ⟨F.1, F.2.1, F.2.2.1, F.2.2.2.2.2.1, hts⟩ hM ⟨va_cnB As.length hts hG rfl rfl rfl (q2 s s.heap hK.2.1) (hts _ q1) hm ⟨by show d' + 1 ≤ d; exact hd, by show 8 + (maxL + 11) + 100 * d' ≤ 100 * d; omega⟩, hy1, hts _ q3⟩ ⟨PD.blind, fun U hU hW => ⟨rfl, GK.warm hW (by rw [hU]; exact GK.at hS hK), by rw [hU]; exact hR⟩⟩ rfl rfl (hl.1) rfl (lv_room hrest) hdg ⟨by show k + mc' ≤ mc; omega, by show n + ms' ≤ ms; omega⟩) hS (fun q h => h) (fun v x' H1 locs1 hq hR1 z1 o1 hS1 => kk v x' hq p e s m args below meth c H1 locs1 ls (k + mc') (n + ms') F hR1 hS1 hl (by omega) (by omega)) (fun E ce q9 x' H1 locs1 hq => hq.elim)
/-- a static of a nest mate -/
theorem j_getsN {C n0 d0 ref host : String} {v : Value} {idx : Nat} (hE : ∀ (s : State) (H : Heap), Γ.2.2 s H → va_Z C n0 d0 v A s H) (hq : ∀ (s : State) (H : Heap), Γ.2.2 s H → va_Nw (.fieldLinkNest own idx ref n0 d0 host) s) (hsame : ref = C ∨ Cond.sameField ref C n0 d0 ∈ lw_all) (hdg : decode cc pc = .ok (.getstatic idx, 3)) (kk : J Γ A Rep l own nm cc nL ret hh d mc ms QP XP cl sl x (pc + 3) lo (v :: st)) : J Γ A Rep l own nm cc nL ret hh d mc ms QP XP cl sl x pc lo st := by
  intro p e s m args below meth c H locs ls k n F hR hS hl h1 h2
  have hs : ∀ y, s.fieldFound? C n0 d0 = some y → s.fieldFound? ref n0 d0 = some y := fun y hy => by
    rcases hsame with e1 | hs
    · rw [e1]; exact hy
    · exact u_same (F.2.2.2.2.2.2.1 _ hs) y hy
  have hK := F.2.2.2.2.2.2.2.2.1
  exact va_getsN F.1 F.2.1 (hE s s.heap hK.2.1) hS F.2.2.2.2.2.1 (va_Nw.use (A := args) rfl (hq s s.heap hK.2.1)) hs hdg (kk p e s m args below meth c H locs ls k n F hR hS hl h1 h2)
end J10
section J10b
variable {Γ : GG} {A : Nat → Prop} {K : KK} {l : Launch} {own nm : String} {cc : ByteArray} {nL : Nat} {ret : Option FieldType} {hh : List (Nat × Nat × Nat × Nat)} {d mc ms : Nat} {QP : Option Value → AL2 → Prop} {XP : String → AL2 → Prop} {cl sl : Nat} {h : AL2} {pc : Nat} {lo : List (Option Value)} {st : List Value}
/-- a private field of a nest mate -/
theorem j2_getN {a idx ci k0 : Nat} {C ref host : String} {T : u_T} {N : Nat} {fs : List Value} {v : Value} (hcl : vwCl[ci]? = some (C, T, N)) (hin : ∀ w ∈ u_ws C T N, w ∈ lw_all) (hk : k0 < N) (hq : ∀ (s : State) (H : Heap), Γ.2.2 s H → va_Nw (.fieldLinkNest own idx ref (T k0).2.1 (T k0).2.2.1 host) s) (hs : ref = (T k0).1 ∨ Cond.sameField ref (T k0).1 (T k0).2.1 (T k0).2.2.1 ∈ lw_all) (ha : h a = some (pO ci fs)) (hv : fs[k0]? = some v) (hdg : decode cc pc = .ok (.getfield idx, 3)) (kk : J Γ A (Rep2 Γ A K) l own nm cc nL ret hh d mc ms QP XP cl sl h (pc + 3) lo (v :: st)) : J Γ A (Rep2 Γ A K) l own nm cc nL ret hh d mc ms QP XP cl sl h pc lo (.ref a :: st) := by
  intro p e s m args below meth c H locs ls k n F hR hS hl h1 h2
  obtain ⟨g, hR1, hL⟩ := hR
  have hK := F.2.2.2.2.2.2.2.2.1
  refine va_getN F.1 F.2.1 F.2.2.2.2.2.2.1 hin F.2.2.2.2.2.1 hK.1 (va_P1 (e := .inr (ci, fs)) (hR1 a _ (hL a _ ha).1).2) 0 rfl hcl k0 hk (va_Nw.use (A := args) rfl (hq s s.heap hK.2.1)) (fun x hx => ?_) hv hdg (kk p e s m args below meth c H locs ls k n F ⟨g, hR1, hL⟩ hS hl h1 h2)
  rcases hs with e1 | hs
  · rw [e1]; exact hx
  · exact u_same (F.2.2.2.2.2.2.1 _ hs) x hx
end J10b

theorem fn_X1_67_X10 : FN RX1 67 8 4 [.null, .null, .null, IV 0] := ⟨RX10, TX10, tyX10, rfl, in_X10, tyX10_ok, q777, q778, q70, fun j hj => by rcases (show j = 0 ∨ j = 1 ∨ j = 2 ∨ j = 3 by omega) with rfl | rfl | rfl | rfl <;> rfl⟩
theorem md_yX10_init : MD yX10_init 0 := by decide +kernel
set_option maxHeartbeats 4000000 in
theorem c_box0 {Γ : GG} {A : Nat → Prop} {K : KK} {l : Launch} (h : AL2) (hfl : l.stackTraces = false) (hke : KE Γ A K) (hfe : FE Γ) (hIOB : TH5 Γ A "java/lang/IndexOutOfBoundsException") (o : Nat) (ad : AD) (σ : MM) (hR : Rel K h o ad σ) (hB : Bd σ) (hne : NE Γ) (hI : In σ) (s : Int) (hs : RR s) (hz : σ.1 14 = 0) : Ct Γ A (Rep2 Γ A K) l yX1_box (ws_ yX1_box cX1_box 3 (some (.object "BallotFoundry$Box"))) 8 6 20 [.ref o, IV s] h (qR (fun (r : Nat) (h' : AL2) => isS σ s ∧ Rel K h' o ad σ ∧ ∃ b1 b2, BoxAt K h' ad σ r b1 b2 s.toNat ∧ BoxIs ad σ r b1 b2 s.toNat)) (fun (E : String) (h' : AL2) => E = "java/lang/IndexOutOfBoundsException" ∧ ¬ isS σ s ∧ Rel K h' o ad σ) := by
  refine Ct.ofJ (own := RX1) (nm := "box") (lo := [some (.ref o), some (IV s), none]) pn_X1 rfl rfl (List.forall_mem_cons.mpr ⟨rfl, (List.forall_mem_cons.mpr ⟨rfl, (fun _ h => nomatch h)⟩)⟩) (Nat.le_of_ble_eq_true rfl) rfl ?_
  have hQ : ∀ (r : Nat) (h' : AL2), (isS σ s ∧ Rel K h' o ad σ ∧ ∃ b1 b2, BoxAt K h' ad σ r b1 b2 s.toNat ∧ BoxIs ad σ r b1 b2 s.toNat) → (qR (fun (r : Nat) (h' : AL2) => isS σ s ∧ Rel K h' o ad σ ∧ ∃ b1 b2, BoxAt K h' ad σ r b1 b2 s.toNat ∧ BoxIs ad σ r b1 b2 s.toNat)) (some (.ref r)) h' := fun r h' h => ⟨r, rfl, h⟩
  generalize (qR (fun (r : Nat) (h' : AL2) => isS σ s ∧ Rel K h' o ad σ ∧ ∃ b1 b2, BoxAt K h' ad σ r b1 b2 s.toNat ∧ BoxIs ad σ r b1 b2 s.toNat)) = QP at hQ ⊢
  have hX : ∀ (E : String) (h' : AL2), (E = "java/lang/IndexOutOfBoundsException" ∧ ¬ isS σ s ∧ Rel K h' o ad σ) → (fun (E : String) (h' : AL2) => E = "java/lang/IndexOutOfBoundsException" ∧ ¬ isS σ s ∧ Rel K h' o ad σ) E h' := fun E h' h => h
  generalize (fun (E : String) (h' : AL2) => E = "java/lang/IndexOutOfBoundsException" ∧ ¬ isS σ s ∧ Rel K h' o ad σ) = XP at hX ⊢
  have n6 : 0 ≤ σ.1 6 ∧ σ.1 6 ≤ 5 := hB.1 6
  have n19 : 0 ≤ σ.1 19 ∧ σ.1 19 ≤ 5 := hB.1 19
  refine j_iconst (pc := 0) dX1_box_0 rfl ?_
  refine j_room (cl' := 5 + 1) (sl' := 18 + 2) (by omega) (by omega) ?_
  refine j2_newa (i := 2) (N := 2) (atype := .int) hke.1 (Or.inl ⟨rfl, rfl⟩) q141 (by omega) (by omega) (by omega) dX1_box_1 (fun a_1 h_1 n_1 e_1 => ?_)
  have z_1 : h_1 a_1 = some (pA 0 2 (fun _ => 0)) := by rw [e_1]; exact upH_self _ _ _
  have fo_a_1 : ∀ k i j, live σ k i j → ad k i j ≠ a_1 := fun k i j hl => hR.fresh n_1 hl
  have R_2 : Rel K h_1 o ad σ := hR.other (fun b c hb => by rw [e_1]; exact upH_old hb n_1)
  refine j_dup (pc := 3) dX1_box_3 rfl ?_
  refine j_iconst (pc := 4) dX1_box_4 rfl ?_
  refine j_iload_n (pc := 5) dX1_box_5 rfl ?_
  refine j2_iast (i := 0) z_1 (by show 0 ≤ 0 ∧ 0 < ((2 : Nat) : Int); omega) dX1_box_6 (fun h_6 e_6 => ?_)
  have z_3 : h_6 a_1 = some (pA 0 2 (uA (fun _ => 0) 0 s)) := by rw [e_6]; exact upH_self _ _ _
  have R_4 : Rel K h_6 o ad σ := R_2.off e_6 fo_a_1
  refine j_dup (pc := 7) dX1_box_7 rfl ?_
  refine j_iconst (pc := 8) dX1_box_8 rfl ?_
  refine j_aload_n (pc := 9) dX1_box_9 rfl ?_
  refine j2_get fa_X1_20_X1 (show h_6 (o) = some (pO 0 [.ref (ad 1 0 0), .ref (ad 2 0 0), .ref (ad 3 0 0), .ref (ad 4 0 0), .null, IV (σ.1 0), .ref (ad 5 0 0), .ref (ad 6 0 0)]) from R_4.top0 hz) rfl dX1_box_10 ?_
  refine j_callF (pc := 13) (xm := ⟨"java/util/List", "size", "()I"⟩) (l2_size (show h_6 (ad 3 0 0) = some (pL (rg (σ.1 6) (fun p => ad 8 p 0))) from R_4.at 3 0 0 ⟨rfl, rfl⟩)) (lw_F q155 q159 q161 q47 q163) hfe.1 (ci := 2) rfl rfl mdx_yJ2_size (RC.ofL (show h_6 (ad 3 0 0) = some (pL (rg (σ.1 6) (fun p => ad 8 p 0))) from R_4.at 3 0 0 ⟨rfl, rfl⟩)) (by decide) (by decide) rfl (Nat.le_of_ble_eq_true rfl) dX1_box_13 (qI.k (fun r_13 s_13 q_13 => ?_))
  obtain ⟨e1q_13, e2q_13⟩ := q_13
  subst s_13
  rw [rg_len (by omega)] at e1q_13
  subst r_13
  refine j2_iast (i := 1) z_3 (by show 0 ≤ 1 ∧ 1 < ((2 : Nat) : Int); omega) dX1_box_18 (fun h_18 e_18 => ?_)
  have z_5 : h_18 a_1 = some (pA 0 2 (uA (uA (fun _ => 0) 0 s) 1 (σ.1 6))) := by rw [e_18]; exact upH_self _ _ _
  have R_6 : Rel K h_18 o ad σ := R_4.off e_18 fo_a_1
  refine j_room (cl' := 4 + 1) (sl' := 12 + 6) (by omega) (by omega) ?_
  refine j_callSx (pc := 19) (c_exist h_18 hfl RG.of2 hIOB a_1 1 (uA (uA (fun _ => 0) 0 s) 1 (σ.1 6)) (rrA (rrA rr0 (by omega)) (by omega)) (by decide) z_5) (lw_S q370 q371 q44 q372) md_yX1_exist (nT _) (fun E x9 hx9 => by obtain ⟨rfl, hn9, rfl⟩ := hx9; rw [ex1] at hn9; exact hX _ _ ⟨rfl, by omega, R_6⟩) (by decide) (by decide) rfl (Nat.le_of_ble_eq_true rfl) dX1_box_19 (qV.k (fun s_19 q_19 => ?_))
  obtain ⟨q_19a, q_19e⟩ := q_19
  subst s_19
  have q_19b := ex1.mp q_19a
  refine j_aload_n (pc := 22) dX1_box_22 rfl ?_
  refine j2_get fa_X1_58_X1 (show h_18 (o) = some (pO 0 [.ref (ad 1 0 0), .ref (ad 2 0 0), .ref (ad 3 0 0), .ref (ad 4 0 0), .null, IV (σ.1 0), .ref (ad 5 0 0), .ref (ad 6 0 0)]) from R_6.top0 hz) rfl dX1_box_23 ?_
  refine j_ifnullN (pc := 26) (tgt := 49) dX1_box_26 (by decide) ?_
  refine j_iconst (pc := 49) dX1_box_49 rfl ?_
  refine j_istore_n (pc := 50) dX1_box_50 (by decide) (lo' := [some (.ref o), some (IV s), some (IV 0)]) rfl ?_
  refine j_iload_n (pc := 51) dX1_box_51 rfl ?_
  refine j_if_eq (pc := 52) (tgt := 74) dX1_box_52 (by decide) (by decide) (fun c_52 => ?_) (fun c_52 => ?_)
  · refine j_room (cl' := 3 + 1) (sl' := 8 + 4) (by omega) (by omega) ?_
    refine j2_new hke.1 (Or.inl (by decide)) fn_X1_67_X10 dX1_box_74 (fun a_74 h_74 n_74 e_74 => ?_)
    have z_7 : h_74 a_1 = some (pA 0 2 (uA (uA (fun _ => 0) 0 s) 1 (σ.1 6))) := by rw [e_74]; exact upH_old z_5 n_74
    have z_8 : h_74 a_74 = some (pO 8 [.null, .null, .null, IV 0]) := by rw [e_74]; exact upH_self _ _ _
    have fo_a_74 : ∀ k i j, live σ k i j → ad k i j ≠ a_74 := fun k i j hl => R_6.fresh n_74 hl
    have R_9 : Rel K h_74 o ad σ := R_6.other (fun b c hb => by rw [e_74]; exact upH_old hb n_74)
    refine j_dup (pc := 77) dX1_box_77 rfl ?_
    refine j_room (cl' := 1 + 2) (sl' := 2 + 6) (by omega) (by omega) ?_
    refine j_callIN (pc := 78) (c_boxInit h_74 hke a_74 z_8) (lw_meth q781) q70 hne.1 q780 rfl md_yX10_init (by decide) (by decide) rfl (Nat.le_of_ble_eq_true rfl) dX1_box_78 (qV.k (fun s_78 q_78 => ?_))
    obtain ⟨b1_78, b2_78, n1_78, n2_78, d12_78, d1_78, d2_78, zq_78, zb1_78, zb2_78, k_78⟩ := q_78
    have fo_b1 : ∀ k i j, live σ k i j → ad k i j ≠ b1_78 := fun k i j hl => R_9.fresh n1_78 hl
    have fo_b2 : ∀ k i j, live σ k i j → ad k i j ≠ b2_78 := fun k i j hl => R_9.fresh n2_78 hl
    have Rk78 : Rel K s_78 o ad σ := ⟨R_9.1, fun k i j hl => k_78 _ _ (R_9.at k i j hl) (fo_a_74 k i j hl), R_9.2.2⟩
    refine j_aret (pc := 81) rfl (by first | exact Or.inl ⟨_, rfl⟩ | exact Or.inr ⟨_, rfl⟩) (hQ _ _ ?_) dX1_box_81
    have s19 : σ.1 19 = 0 := (hI.s1 (by omega)).1
    exact ⟨by omega, Rk78, b1_78, b2_78, BoxAt.none (hI.2.2.2.2.1 s.toNat (by omega) (by omega)) zq_78 zb1_78 zb2_78, Or.inr ⟨by omega, ⟨d1_78, d2_78, d12_78⟩, fun k i j hl => ⟨fo_a_74 k i j hl, fo_b1 k i j hl, fo_b2 k i j hl⟩⟩⟩
  · exact absurd c_52 (by decide)

theorem fa_X1_62_X9 : FA RX1 62 7 6 := ⟨RX9, TX9, 10, "BallotFoundry$Election", rfl, in_X9, by decide, q727, Or.inl rfl⟩
set_option maxHeartbeats 4000000 in
theorem c_box1 {Γ : GG} {A : Nat → Prop} {K : KK} {l : Launch} (h : AL2) (hfl : l.stackTraces = false) (hke : KE Γ A K) (hfe : FE Γ) (hIOB : TH5 Γ A "java/lang/IndexOutOfBoundsException") (o : Nat) (ad : AD) (σ : MM) (hR : Rel K h o ad σ) (hB : Bd σ) (hne : NE Γ) (hI : In σ) (s : Int) (hs : RR s) (hz : σ.1 14 ≠ 0) : Ct Γ A (Rep2 Γ A K) l yX1_box (ws_ yX1_box cX1_box 3 (some (.object "BallotFoundry$Box"))) 8 6 20 [.ref o, IV s] h (qR (fun (r : Nat) (h' : AL2) => isS σ s ∧ Rel K h' o ad σ ∧ ∃ b1 b2, BoxAt K h' ad σ r b1 b2 s.toNat ∧ BoxIs ad σ r b1 b2 s.toNat)) (fun (E : String) (h' : AL2) => E = "java/lang/IndexOutOfBoundsException" ∧ ¬ isS σ s ∧ Rel K h' o ad σ) := by
  refine Ct.ofJ (own := RX1) (nm := "box") (lo := [some (.ref o), some (IV s), none]) pn_X1 rfl rfl (List.forall_mem_cons.mpr ⟨rfl, (List.forall_mem_cons.mpr ⟨rfl, (fun _ h => nomatch h)⟩)⟩) (Nat.le_of_ble_eq_true rfl) rfl ?_
  have hQ : ∀ (r : Nat) (h' : AL2), (isS σ s ∧ Rel K h' o ad σ ∧ ∃ b1 b2, BoxAt K h' ad σ r b1 b2 s.toNat ∧ BoxIs ad σ r b1 b2 s.toNat) → (qR (fun (r : Nat) (h' : AL2) => isS σ s ∧ Rel K h' o ad σ ∧ ∃ b1 b2, BoxAt K h' ad σ r b1 b2 s.toNat ∧ BoxIs ad σ r b1 b2 s.toNat)) (some (.ref r)) h' := fun r h' h => ⟨r, rfl, h⟩
  generalize (qR (fun (r : Nat) (h' : AL2) => isS σ s ∧ Rel K h' o ad σ ∧ ∃ b1 b2, BoxAt K h' ad σ r b1 b2 s.toNat ∧ BoxIs ad σ r b1 b2 s.toNat)) = QP at hQ ⊢
  have hX : ∀ (E : String) (h' : AL2), (E = "java/lang/IndexOutOfBoundsException" ∧ ¬ isS σ s ∧ Rel K h' o ad σ) → (fun (E : String) (h' : AL2) => E = "java/lang/IndexOutOfBoundsException" ∧ ¬ isS σ s ∧ Rel K h' o ad σ) E h' := fun E h' h => h
  generalize (fun (E : String) (h' : AL2) => E = "java/lang/IndexOutOfBoundsException" ∧ ¬ isS σ s ∧ Rel K h' o ad σ) = XP at hX ⊢
  have n6 : 0 ≤ σ.1 6 ∧ σ.1 6 ≤ 5 := hB.1 6
  have n19 : 0 ≤ σ.1 19 ∧ σ.1 19 ≤ 5 := hB.1 19
  refine j_iconst (pc := 0) dX1_box_0 rfl ?_
  refine j_room (cl' := 5 + 1) (sl' := 18 + 2) (by omega) (by omega) ?_
  refine j2_newa (i := 2) (N := 2) (atype := .int) hke.1 (Or.inl ⟨rfl, rfl⟩) q141 (by omega) (by omega) (by omega) dX1_box_1 (fun a_1 h_1 n_1 e_1 => ?_)
  have z_1 : h_1 a_1 = some (pA 0 2 (fun _ => 0)) := by rw [e_1]; exact upH_self _ _ _
  have fo_a_1 : ∀ k i j, live σ k i j → ad k i j ≠ a_1 := fun k i j hl => hR.fresh n_1 hl
  have R_2 : Rel K h_1 o ad σ := hR.other (fun b c hb => by rw [e_1]; exact upH_old hb n_1)
  refine j_dup (pc := 3) dX1_box_3 rfl ?_
  refine j_iconst (pc := 4) dX1_box_4 rfl ?_
  refine j_iload_n (pc := 5) dX1_box_5 rfl ?_
  refine j2_iast (i := 0) z_1 (by show 0 ≤ 0 ∧ 0 < ((2 : Nat) : Int); omega) dX1_box_6 (fun h_6 e_6 => ?_)
  have z_3 : h_6 a_1 = some (pA 0 2 (uA (fun _ => 0) 0 s)) := by rw [e_6]; exact upH_self _ _ _
  have R_4 : Rel K h_6 o ad σ := R_2.off e_6 fo_a_1
  refine j_dup (pc := 7) dX1_box_7 rfl ?_
  refine j_iconst (pc := 8) dX1_box_8 rfl ?_
  refine j_aload_n (pc := 9) dX1_box_9 rfl ?_
  refine j2_get fa_X1_20_X1 (show h_6 (o) = some (pO 0 [.ref (ad 1 0 0), .ref (ad 2 0 0), .ref (ad 3 0 0), .ref (ad 4 0 0), .ref (ad 12 0 0), IV (σ.1 0), .ref (ad 5 0 0), .ref (ad 6 0 0)]) from R_4.top1 hz) rfl dX1_box_10 ?_
  refine j_callF (pc := 13) (xm := ⟨"java/util/List", "size", "()I"⟩) (l2_size (show h_6 (ad 3 0 0) = some (pL (rg (σ.1 6) (fun p => ad 8 p 0))) from R_4.at 3 0 0 ⟨rfl, rfl⟩)) (lw_F q155 q159 q161 q47 q163) hfe.1 (ci := 2) rfl rfl mdx_yJ2_size (RC.ofL (show h_6 (ad 3 0 0) = some (pL (rg (σ.1 6) (fun p => ad 8 p 0))) from R_4.at 3 0 0 ⟨rfl, rfl⟩)) (by decide) (by decide) rfl (Nat.le_of_ble_eq_true rfl) dX1_box_13 (qI.k (fun r_13 s_13 q_13 => ?_))
  obtain ⟨e1q_13, e2q_13⟩ := q_13
  subst s_13
  rw [rg_len (by omega)] at e1q_13
  subst r_13
  refine j2_iast (i := 1) z_3 (by show 0 ≤ 1 ∧ 1 < ((2 : Nat) : Int); omega) dX1_box_18 (fun h_18 e_18 => ?_)
  have z_5 : h_18 a_1 = some (pA 0 2 (uA (uA (fun _ => 0) 0 s) 1 (σ.1 6))) := by rw [e_18]; exact upH_self _ _ _
  have R_6 : Rel K h_18 o ad σ := R_4.off e_18 fo_a_1
  refine j_room (cl' := 4 + 1) (sl' := 12 + 6) (by omega) (by omega) ?_
  refine j_callSx (pc := 19) (c_exist h_18 hfl RG.of2 hIOB a_1 1 (uA (uA (fun _ => 0) 0 s) 1 (σ.1 6)) (rrA (rrA rr0 (by omega)) (by omega)) (by decide) z_5) (lw_S q370 q371 q44 q372) md_yX1_exist (nT _) (fun E x9 hx9 => by obtain ⟨rfl, hn9, rfl⟩ := hx9; rw [ex1] at hn9; exact hX _ _ ⟨rfl, by omega, R_6⟩) (by decide) (by decide) rfl (Nat.le_of_ble_eq_true rfl) dX1_box_19 (qV.k (fun s_19 q_19 => ?_))
  obtain ⟨q_19a, q_19e⟩ := q_19
  subst s_19
  have q_19b := ex1.mp q_19a
  refine j_aload_n (pc := 22) dX1_box_22 rfl ?_
  refine j2_get fa_X1_58_X1 (show h_18 (o) = some (pO 0 [.ref (ad 1 0 0), .ref (ad 2 0 0), .ref (ad 3 0 0), .ref (ad 4 0 0), .ref (ad 12 0 0), IV (σ.1 0), .ref (ad 5 0 0), .ref (ad 6 0 0)]) from R_6.top1 hz) rfl dX1_box_23 ?_
  refine j_ifnull (pc := 26) dX1_box_26 ?_
  refine j_iload_n (pc := 29) dX1_box_29 rfl ?_
  refine j_aload_n (pc := 30) dX1_box_30 rfl ?_
  refine j2_get fa_X1_58_X1 (show h_18 (o) = some (pO 0 [.ref (ad 1 0 0), .ref (ad 2 0 0), .ref (ad 3 0 0), .ref (ad 4 0 0), .ref (ad 12 0 0), IV (σ.1 0), .ref (ad 5 0 0), .ref (ad 6 0 0)]) from R_6.top1 hz) rfl dX1_box_31 ?_
  refine j2_get fa_X1_62_X9 (show h_18 (ad 12 0 0) = some (pO 7 [IV (σ.1 15), IV (σ.1 16), IV (σ.1 17), .ref (ad 13 0 0), .ref (ad 14 0 0), .ref (ad 15 0 0), .ref (ad 16 0 0), .ref (ad 17 0 0), .ref (ad 18 0 0), IV (σ.1 14)]) from R_6.at 12 0 0 ⟨hz, rfl, rfl⟩) rfl dX1_box_34 ?_
  refine j_callF (pc := 37) (xm := ⟨"java/util/List", "size", "()I"⟩) (l2_size (show h_18 (ad 16 0 0) = some (pL (rg (σ.1 19) (fun q => ad 19 q 0))) from R_6.at 16 0 0 ⟨hz, rfl, rfl⟩)) (lw_F q155 q159 q161 q47 q163) hfe.1 (ci := 2) rfl rfl mdx_yJ2_size (RC.ofL (show h_18 (ad 16 0 0) = some (pL (rg (σ.1 19) (fun q => ad 19 q 0))) from R_6.at 16 0 0 ⟨hz, rfl, rfl⟩)) (by decide) (by decide) rfl (Nat.le_of_ble_eq_true rfl) dX1_box_37 (qI.k (fun r_37 s_37 q_37 => ?_))
  obtain ⟨e1q_37, e2q_37⟩ := q_37
  subst s_37
  rw [rg_len (by omega)] at e1q_37
  subst r_37
  refine j_icmp_ge (pc := 42) (tgt := 49) dX1_box_42 (by decide) (by omega) (by omega) (fun c_42 => ?_) (fun c_42 => ?_)
  · refine j_iconst (pc := 49) dX1_box_49 rfl ?_
    refine j_istore_n (pc := 50) dX1_box_50 (by decide) (lo' := [some (.ref o), some (IV s), some (IV 0)]) rfl ?_
    refine j_iload_n (pc := 51) dX1_box_51 rfl ?_
    refine j_if_eq (pc := 52) (tgt := 74) dX1_box_52 (by decide) (by decide) (fun c_52 => ?_) (fun c_52 => ?_)
    · refine j_room (cl' := 3 + 1) (sl' := 8 + 4) (by omega) (by omega) ?_
      refine j2_new hke.1 (Or.inl (by decide)) fn_X1_67_X10 dX1_box_74 (fun a_74 h_74 n_74 e_74 => ?_)
      have z_7 : h_74 a_1 = some (pA 0 2 (uA (uA (fun _ => 0) 0 s) 1 (σ.1 6))) := by rw [e_74]; exact upH_old z_5 n_74
      have z_8 : h_74 a_74 = some (pO 8 [.null, .null, .null, IV 0]) := by rw [e_74]; exact upH_self _ _ _
      have fo_a_74 : ∀ k i j, live σ k i j → ad k i j ≠ a_74 := fun k i j hl => R_6.fresh n_74 hl
      have R_9 : Rel K h_74 o ad σ := R_6.other (fun b c hb => by rw [e_74]; exact upH_old hb n_74)
      refine j_dup (pc := 77) dX1_box_77 rfl ?_
      refine j_room (cl' := 1 + 2) (sl' := 2 + 6) (by omega) (by omega) ?_
      refine j_callIN (pc := 78) (c_boxInit h_74 hke a_74 z_8) (lw_meth q781) q70 hne.1 q780 rfl md_yX10_init (by decide) (by decide) rfl (Nat.le_of_ble_eq_true rfl) dX1_box_78 (qV.k (fun s_78 q_78 => ?_))
      obtain ⟨b1_78, b2_78, n1_78, n2_78, d12_78, d1_78, d2_78, zq_78, zb1_78, zb2_78, k_78⟩ := q_78
      have fo_b1 : ∀ k i j, live σ k i j → ad k i j ≠ b1_78 := fun k i j hl => R_9.fresh n1_78 hl
      have fo_b2 : ∀ k i j, live σ k i j → ad k i j ≠ b2_78 := fun k i j hl => R_9.fresh n2_78 hl
      have Rk78 : Rel K s_78 o ad σ := ⟨R_9.1, fun k i j hl => k_78 _ _ (R_9.at k i j hl) (fo_a_74 k i j hl), R_9.2.2⟩
      refine j_aret (pc := 81) rfl (by first | exact Or.inl ⟨_, rfl⟩ | exact Or.inr ⟨_, rfl⟩) (hQ _ _ ?_) dX1_box_81
      exact ⟨by omega, Rk78, b1_78, b2_78, BoxAt.none (hI.2.2.2.2.1 s.toNat (by omega) (by omega)) zq_78 zb1_78 zb2_78, Or.inr ⟨by omega, ⟨d1_78, d2_78, d12_78⟩, fun k i j hl => ⟨fo_a_74 k i j hl, fo_b1 k i j hl, fo_b2 k i j hl⟩⟩⟩
    · exact absurd c_52 (by decide)
  · refine j_iconst (pc := 45) dX1_box_45 rfl ?_
    refine j_goto (pc := 46) (tgt := 50) dX1_box_46 (by decide) ?_
    refine j_istore_n (pc := 50) dX1_box_50 (by decide) (lo' := [some (.ref o), some (IV s), some (IV 1)]) rfl ?_
    refine j_iload_n (pc := 51) dX1_box_51 rfl ?_
    refine j_if_eq (pc := 52) (tgt := 74) dX1_box_52 (by decide) (by decide) (fun c_52_1 => ?_) (fun c_52_1 => ?_)
    · exact absurd c_52_1 (by decide)
    · refine j_aload_n (pc := 55) dX1_box_55 rfl ?_
      refine j2_get fa_X1_58_X1 (show h_18 (o) = some (pO 0 [.ref (ad 1 0 0), .ref (ad 2 0 0), .ref (ad 3 0 0), .ref (ad 4 0 0), .ref (ad 12 0 0), IV (σ.1 0), .ref (ad 5 0 0), .ref (ad 6 0 0)]) from R_6.top1 hz) rfl dX1_box_56 ?_
      refine j2_get fa_X1_62_X9 (show h_18 (ad 12 0 0) = some (pO 7 [IV (σ.1 15), IV (σ.1 16), IV (σ.1 17), .ref (ad 13 0 0), .ref (ad 14 0 0), .ref (ad 15 0 0), .ref (ad 16 0 0), .ref (ad 17 0 0), .ref (ad 18 0 0), IV (σ.1 14)]) from R_6.at 12 0 0 ⟨hz, rfl, rfl⟩) rfl dX1_box_59 ?_
      refine j_iload_n (pc := 62) dX1_box_62 rfl ?_
      refine j_callF (pc := 63) (xm := ⟨"java/util/List", "get", "(I)Ljava/lang/Object;"⟩) (l2_get (show h_18 (ad 16 0 0) = some (pL (rg (σ.1 19) (fun q => ad 19 q 0))) from R_6.at 16 0 0 ⟨hz, rfl, rfl⟩) (i := s) (v := ad 19 (s).toNat 0) (by omega) (rg_at (by omega) (by omega))) (lw_F q551 q185 q187 q47 q189) hfe.2.2.1 (ci := 2) rfl rfl mdx_yJ2_get (RC.ofL (show h_18 (ad 16 0 0) = some (pL (rg (σ.1 19) (fun q => ad 19 q 0))) from R_6.at 16 0 0 ⟨hz, rfl, rfl⟩)) (by decide) (by decide) rfl (Nat.le_of_ble_eq_true rfl) dX1_box_63 (qR.k (fun r_63 s_63 q_63 => ?_))
      obtain ⟨e1q_63, e2q_63⟩ := q_63
      subst r_63
      subst s_63
      refine j2_castS (C := RX10) rfl q777 (show h_18 (ad 19 (s).toNat 0) = some (pO 8 [.ref (ad 20 (s).toNat 0), .ref (ad 21 (s).toNat 0), va_rf (if σ.2 32 (s).toNat = -1 then none else some (ad 24 (s).toNat 0)), IV (σ.2 21 (s).toNat)]) from R_6.at 19 (s).toNat 0 ⟨hz, (by omega), rfl⟩) dX1_box_68 ?_
      refine j_goto (pc := 71) (tgt := 81) dX1_box_71 (by decide) ?_
      refine j_aret (pc := 81) rfl (by first | exact Or.inl ⟨_, rfl⟩ | exact Or.inr ⟨_, rfl⟩) (hQ _ _ ?_) dX1_box_81
      exact ⟨by omega, R_6, _, _, BoxAt.own R_6 hz (by omega), Or.inl ⟨hz, by omega, rfl, rfl, rfl⟩⟩

theorem c_box {Γ : GG} {A : Nat → Prop} {K : KK} {l : Launch} (h : AL2) (hfl : l.stackTraces = false) (hke : KE Γ A K) (hfe : FE Γ) (hIOB : TH5 Γ A "java/lang/IndexOutOfBoundsException") (o : Nat) (ad : AD) (σ : MM) (hR : Rel K h o ad σ) (hB : Bd σ) (hne : NE Γ) (hI : In σ) (s : Int) (hs : RR s) : Ct Γ A (Rep2 Γ A K) l yX1_box (ws_ yX1_box cX1_box 3 (some (.object "BallotFoundry$Box"))) 8 6 20 [.ref o, IV s] h (qR (fun (r : Nat) (h' : AL2) => isS σ s ∧ Rel K h' o ad σ ∧ ∃ b1 b2, BoxAt K h' ad σ r b1 b2 s.toNat ∧ BoxIs ad σ r b1 b2 s.toNat)) (fun (E : String) (h' : AL2) => E = "java/lang/IndexOutOfBoundsException" ∧ ¬ isS σ s ∧ Rel K h' o ad σ) := by
  by_cases hz : σ.1 14 = 0
  · exact c_box0 h hfl hke hfe hIOB o ad σ hR hB hne hI s hs hz
  · exact c_box1 h hfl hke hfe hIOB o ad σ hR hB hne hI s hs hz

theorem if_none {c : Prop} [Decidable c] {a : Nat} (e : (if c then none else some a) = none) : c := by
  by_cases h : c
  · exact h
  · rw [if_neg h] at e; cases e
theorem if_some {c : Prop} [Decidable c] {a b : Nat} (e : (if c then none else some a) = some b) : ¬ c ∧ b = a := by
  by_cases h : c
  · rw [if_pos h] at e; cases e
  · rw [if_neg h] at e; cases e; exact ⟨h, rfl⟩

theorem md_yX1_box : MD yX1_box 1 := by decide +kernel
theorem fa_X1_156_X10 : FA RX1 156 8 3 := ⟨RX10, TX10, 4, "BallotFoundry$Box", rfl, in_X10, by decide, q794, Or.inl rfl⟩
set_option maxHeartbeats 4000000 in
theorem c_peopleOf {Γ : GG} {A : Nat → Prop} {K : KK} {l : Launch} (h : AL2) (hfl : l.stackTraces = false) (hke : KE Γ A K) (hfe : FE Γ) (hIOB : TH5 Γ A "java/lang/IndexOutOfBoundsException") (hIAE : TH5 Γ A "java/lang/IllegalArgumentException") (hISE : TH5 Γ A "java/lang/IllegalStateException") (o : Nat) (ad : AD) (σ : MM) (hR : Rel K h o ad σ) (hB : Bd σ) (s : Int) (hs : RR s) (hne : NE Γ) (hI : In σ) : Ct Γ A (Rep2 Γ A K) l yX1_peopleOf (ws_ yX1_peopleOf cX1_peopleOf 2 (some .int)) 10 8 30 [.ref o, IV s] h (qI (fun (r : Int) (h' : AL2) => t1 (isS σ s) = 0 ∧ r = σ.2 21 s.toNat ∧ ∃ ad', Rel K h' o ad' (σ))) (fun (E : String) (h' : AL2) => xE ["java/lang/IndexOutOfBoundsException"] (t1 (isS σ s)) E ∧ ∃ ad', Rel K h' o ad' σ) := by
  refine Ct.ofJ (own := RX1) (nm := "peopleOf") (lo := [some (.ref o), some (IV s)]) pn_X1 rfl rfl (List.forall_mem_cons.mpr ⟨rfl, (List.forall_mem_cons.mpr ⟨rfl, (fun _ h => nomatch h)⟩)⟩) (Nat.le_of_ble_eq_true rfl) rfl ?_
  have hQ : ∀ (r : Int) (h' : AL2), (t1 (isS σ s) = 0 ∧ r = σ.2 21 s.toNat ∧ ∃ ad', Rel K h' o ad' (σ)) → (qI (fun (r : Int) (h' : AL2) => t1 (isS σ s) = 0 ∧ r = σ.2 21 s.toNat ∧ ∃ ad', Rel K h' o ad' (σ))) (some (IV r)) h' := fun r h' h => ⟨r, rfl, h⟩
  generalize (qI (fun (r : Int) (h' : AL2) => t1 (isS σ s) = 0 ∧ r = σ.2 21 s.toNat ∧ ∃ ad', Rel K h' o ad' (σ))) = QP at hQ ⊢
  have hX : ∀ (E : String) (h' : AL2), (xE ["java/lang/IndexOutOfBoundsException"] (t1 (isS σ s)) E ∧ ∃ ad', Rel K h' o ad' σ) → (fun (E : String) (h' : AL2) => xE ["java/lang/IndexOutOfBoundsException"] (t1 (isS σ s)) E ∧ ∃ ad', Rel K h' o ad' σ) E h' := fun E h' h => h
  generalize (fun (E : String) (h' : AL2) => xE ["java/lang/IndexOutOfBoundsException"] (t1 (isS σ s)) E ∧ ∃ ad', Rel K h' o ad' σ) = XP at hX ⊢
  have n6 : 0 ≤ σ.1 6 ∧ σ.1 6 ≤ 5 := hB.1 6
  have n28 : 0 ≤ σ.2 28 s.toNat ∧ σ.2 28 s.toNat ≤ 20 := hB.2 28 _
  have n31 : 0 ≤ σ.2 31 s.toNat ∧ σ.2 31 s.toNat ≤ 8 := hB.2 31 _
  have n32 : -1 ≤ σ.2 32 s.toNat ∧ σ.2 32 s.toNat ≤ 39 := hB.2 32 _
  refine j_aload_n (pc := 0) dX1_peopleOf_0 rfl ?_
  refine j_iload_n (pc := 1) dX1_peopleOf_1 rfl ?_
  refine j_room (cl' := 2 + 6) (sl' := 10 + 20) (by omega) (by omega) ?_
  refine j_callVx (pc := 2) (c_box h hfl hke hfe hIOB o ad σ hR hB hne hI s (by omega)) (lw_V q866 q868 qs17 q44 q869) rfl md_yX1_box (RC.of2 (show h (o) = some (pO 0 [.ref (ad 1 0 0), .ref (ad 2 0 0), .ref (ad 3 0 0), .ref (ad 4 0 0), va_rf (if σ.1 14 = 0 then none else some (ad 12 0 0)), IV (σ.1 0), .ref (ad 5 0 0), .ref (ad 6 0 0)]) from hR.top) rfl) (nT _) (fun E x9 hx9 => by obtain ⟨rfl, hn9, hR9⟩ := hx9; exact hX _ _ ⟨xE_of 0 (by unfold t1; (repeat' split) <;> omega) rfl, ad, hR9⟩) (by decide) (by decide) rfl (Nat.le_of_ble_eq_true rfl) dX1_peopleOf_2 (qR.k (fun r_2 s_2 q_2 => ?_))
  obtain ⟨q_2p, q_2R, b1_2, b2_2, q_2B, q_2I⟩ := q_2
  refine j2_get fa_X1_156_X10 q_2B.1 rfl dX1_peopleOf_5 ?_
  have n_1 : 0 ≤ σ.2 21 (s).toNat ∧ σ.2 21 (s).toNat ≤ 20 := hB.2 21 ((s).toNat)
  refine j_iret (pc := 8) rfl (hQ _ _ ?_) dX1_peopleOf_8
  exact ⟨by unfold t1; (repeat' split) <;> omega, rfl, ad, q_2R⟩

theorem fa_X1_212_X10 : FA RX1 212 8 0 := ⟨RX10, TX10, 4, "BallotFoundry$Box", rfl, in_X10, by decide, q787, Or.inl rfl⟩
set_option maxHeartbeats 4000000 in
theorem c_ballots {Γ : GG} {A : Nat → Prop} {K : KK} {l : Launch} (h : AL2) (hfl : l.stackTraces = false) (hke : KE Γ A K) (hfe : FE Γ) (hIOB : TH5 Γ A "java/lang/IndexOutOfBoundsException") (hIAE : TH5 Γ A "java/lang/IllegalArgumentException") (hISE : TH5 Γ A "java/lang/IllegalStateException") (o : Nat) (ad : AD) (σ : MM) (hR : Rel K h o ad σ) (hB : Bd σ) (s : Int) (hs : RR s) (hne : NE Γ) (hI : In σ) : Ct Γ A (Rep2 Γ A K) l yX1_ballots (ws_ yX1_ballots cX1_ballots 2 (some .int)) 10 8 30 [.ref o, IV s] h (qI (fun (r : Int) (h' : AL2) => t1 (isS σ s) = 0 ∧ r = σ.2 28 s.toNat ∧ ∃ ad', Rel K h' o ad' (σ))) (fun (E : String) (h' : AL2) => xE ["java/lang/IndexOutOfBoundsException"] (t1 (isS σ s)) E ∧ ∃ ad', Rel K h' o ad' σ) := by
  refine Ct.ofJ (own := RX1) (nm := "ballots") (lo := [some (.ref o), some (IV s)]) pn_X1 rfl rfl (List.forall_mem_cons.mpr ⟨rfl, (List.forall_mem_cons.mpr ⟨rfl, (fun _ h => nomatch h)⟩)⟩) (Nat.le_of_ble_eq_true rfl) rfl ?_
  have hQ : ∀ (r : Int) (h' : AL2), (t1 (isS σ s) = 0 ∧ r = σ.2 28 s.toNat ∧ ∃ ad', Rel K h' o ad' (σ)) → (qI (fun (r : Int) (h' : AL2) => t1 (isS σ s) = 0 ∧ r = σ.2 28 s.toNat ∧ ∃ ad', Rel K h' o ad' (σ))) (some (IV r)) h' := fun r h' h => ⟨r, rfl, h⟩
  generalize (qI (fun (r : Int) (h' : AL2) => t1 (isS σ s) = 0 ∧ r = σ.2 28 s.toNat ∧ ∃ ad', Rel K h' o ad' (σ))) = QP at hQ ⊢
  have hX : ∀ (E : String) (h' : AL2), (xE ["java/lang/IndexOutOfBoundsException"] (t1 (isS σ s)) E ∧ ∃ ad', Rel K h' o ad' σ) → (fun (E : String) (h' : AL2) => xE ["java/lang/IndexOutOfBoundsException"] (t1 (isS σ s)) E ∧ ∃ ad', Rel K h' o ad' σ) E h' := fun E h' h => h
  generalize (fun (E : String) (h' : AL2) => xE ["java/lang/IndexOutOfBoundsException"] (t1 (isS σ s)) E ∧ ∃ ad', Rel K h' o ad' σ) = XP at hX ⊢
  have n6 : 0 ≤ σ.1 6 ∧ σ.1 6 ≤ 5 := hB.1 6
  have n28 : 0 ≤ σ.2 28 s.toNat ∧ σ.2 28 s.toNat ≤ 20 := hB.2 28 _
  have n31 : 0 ≤ σ.2 31 s.toNat ∧ σ.2 31 s.toNat ≤ 8 := hB.2 31 _
  have n32 : -1 ≤ σ.2 32 s.toNat ∧ σ.2 32 s.toNat ≤ 39 := hB.2 32 _
  refine j_aload_n (pc := 0) dX1_ballots_0 rfl ?_
  refine j_iload_n (pc := 1) dX1_ballots_1 rfl ?_
  refine j_room (cl' := 2 + 6) (sl' := 10 + 20) (by omega) (by omega) ?_
  refine j_callVx (pc := 2) (c_box h hfl hke hfe hIOB o ad σ hR hB hne hI s (by omega)) (lw_V q866 q868 qs17 q44 q869) rfl md_yX1_box (RC.of2 (show h (o) = some (pO 0 [.ref (ad 1 0 0), .ref (ad 2 0 0), .ref (ad 3 0 0), .ref (ad 4 0 0), va_rf (if σ.1 14 = 0 then none else some (ad 12 0 0)), IV (σ.1 0), .ref (ad 5 0 0), .ref (ad 6 0 0)]) from hR.top) rfl) (nT _) (fun E x9 hx9 => by obtain ⟨rfl, hn9, hR9⟩ := hx9; exact hX _ _ ⟨xE_of 0 (by unfold t1; (repeat' split) <;> omega) rfl, ad, hR9⟩) (by decide) (by decide) rfl (Nat.le_of_ble_eq_true rfl) dX1_ballots_2 (qR.k (fun r_2 s_2 q_2 => ?_))
  obtain ⟨q_2p, q_2R, b1_2, b2_2, q_2B, q_2I⟩ := q_2
  refine j2_get fa_X1_212_X10 q_2B.1 rfl dX1_ballots_5 ?_
  refine j_callF (pc := 8) (xm := ⟨"java/util/List", "size", "()I"⟩) (l2_size q_2B.2.1) (lw_F q155 q159 q161 q47 q163) hfe.1 (ci := 2) rfl rfl mdx_yJ2_size (RC.ofL q_2B.2.1) (by decide) (by decide) rfl (Nat.le_of_ble_eq_true rfl) dX1_ballots_8 (qI.k (fun r_8 s_8 q_8 => ?_))
  obtain ⟨e1q_8, e2q_8⟩ := q_8
  subst s_8
  rw [rg_len (by omega)] at e1q_8
  subst r_8
  refine j_iret (pc := 13) rfl (hQ _ _ ?_) dX1_ballots_13
  exact ⟨by unfold t1; (repeat' split) <;> omega, rfl, ad, q_2R⟩

theorem fa_X1_246_X10 : FA RX1 246 8 2 := ⟨RX10, TX10, 4, "BallotFoundry$Box", rfl, in_X10, by decide, q793, Or.inl rfl⟩
set_option maxHeartbeats 4000000 in
theorem c_isSettled {Γ : GG} {A : Nat → Prop} {K : KK} {l : Launch} (h : AL2) (hfl : l.stackTraces = false) (hke : KE Γ A K) (hfe : FE Γ) (hIOB : TH5 Γ A "java/lang/IndexOutOfBoundsException") (hIAE : TH5 Γ A "java/lang/IllegalArgumentException") (hISE : TH5 Γ A "java/lang/IllegalStateException") (o : Nat) (ad : AD) (σ : MM) (hR : Rel K h o ad σ) (hB : Bd σ) (s : Int) (hs : RR s) (hne : NE Γ) (hI : In σ) : Ct Γ A (Rep2 Γ A K) l yX1_isSettled (ws_ yX1_isSettled cX1_isSettled 2 (some .boolean)) 10 8 30 [.ref o, IV s] h (qI (fun (r : Int) (h' : AL2) => t1 (isS σ s) = 0 ∧ r = bI (σ.2 32 s.toNat ≠ -1) ∧ ∃ ad', Rel K h' o ad' (σ))) (fun (E : String) (h' : AL2) => xE ["java/lang/IndexOutOfBoundsException"] (t1 (isS σ s)) E ∧ ∃ ad', Rel K h' o ad' σ) := by
  refine Ct.ofJ (own := RX1) (nm := "isSettled") (lo := [some (.ref o), some (IV s)]) pn_X1 rfl rfl (List.forall_mem_cons.mpr ⟨rfl, (List.forall_mem_cons.mpr ⟨rfl, (fun _ h => nomatch h)⟩)⟩) (Nat.le_of_ble_eq_true rfl) rfl ?_
  have hQ : ∀ (r : Int) (h' : AL2), (t1 (isS σ s) = 0 ∧ r = bI (σ.2 32 s.toNat ≠ -1) ∧ ∃ ad', Rel K h' o ad' (σ)) → (qI (fun (r : Int) (h' : AL2) => t1 (isS σ s) = 0 ∧ r = bI (σ.2 32 s.toNat ≠ -1) ∧ ∃ ad', Rel K h' o ad' (σ))) (some (IV r)) h' := fun r h' h => ⟨r, rfl, h⟩
  generalize (qI (fun (r : Int) (h' : AL2) => t1 (isS σ s) = 0 ∧ r = bI (σ.2 32 s.toNat ≠ -1) ∧ ∃ ad', Rel K h' o ad' (σ))) = QP at hQ ⊢
  have hX : ∀ (E : String) (h' : AL2), (xE ["java/lang/IndexOutOfBoundsException"] (t1 (isS σ s)) E ∧ ∃ ad', Rel K h' o ad' σ) → (fun (E : String) (h' : AL2) => xE ["java/lang/IndexOutOfBoundsException"] (t1 (isS σ s)) E ∧ ∃ ad', Rel K h' o ad' σ) E h' := fun E h' h => h
  generalize (fun (E : String) (h' : AL2) => xE ["java/lang/IndexOutOfBoundsException"] (t1 (isS σ s)) E ∧ ∃ ad', Rel K h' o ad' σ) = XP at hX ⊢
  have n6 : 0 ≤ σ.1 6 ∧ σ.1 6 ≤ 5 := hB.1 6
  have n28 : 0 ≤ σ.2 28 s.toNat ∧ σ.2 28 s.toNat ≤ 20 := hB.2 28 _
  have n31 : 0 ≤ σ.2 31 s.toNat ∧ σ.2 31 s.toNat ≤ 8 := hB.2 31 _
  have n32 : -1 ≤ σ.2 32 s.toNat ∧ σ.2 32 s.toNat ≤ 39 := hB.2 32 _
  refine j_aload_n (pc := 0) dX1_isSettled_0 rfl ?_
  refine j_iload_n (pc := 1) dX1_isSettled_1 rfl ?_
  refine j_room (cl' := 2 + 6) (sl' := 10 + 20) (by omega) (by omega) ?_
  refine j_callVx (pc := 2) (c_box h hfl hke hfe hIOB o ad σ hR hB hne hI s (by omega)) (lw_V q866 q868 qs17 q44 q869) rfl md_yX1_box (RC.of2 (show h (o) = some (pO 0 [.ref (ad 1 0 0), .ref (ad 2 0 0), .ref (ad 3 0 0), .ref (ad 4 0 0), va_rf (if σ.1 14 = 0 then none else some (ad 12 0 0)), IV (σ.1 0), .ref (ad 5 0 0), .ref (ad 6 0 0)]) from hR.top) rfl) (nT _) (fun E x9 hx9 => by obtain ⟨rfl, hn9, hR9⟩ := hx9; exact hX _ _ ⟨xE_of 0 (by unfold t1; (repeat' split) <;> omega) rfl, ad, hR9⟩) (by decide) (by decide) rfl (Nat.le_of_ble_eq_true rfl) dX1_isSettled_2 (qR.k (fun r_2 s_2 q_2 => ?_))
  obtain ⟨q_2p, q_2R, b1_2, b2_2, q_2B, q_2I⟩ := q_2
  refine j2_get fa_X1_246_X10 q_2B.1 rfl dX1_isSettled_5 ?_
  rcases e_8 : if σ.2 32 (s).toNat = -1 then none else some (ad 24 (s).toNat 0) with _ | a_8
  · refine j_ifnullN (pc := 8) (tgt := 15) dX1_isSettled_8 (by decide) ?_
    refine j_iconst (pc := 15) dX1_isSettled_15 rfl ?_
    refine j_zret (pc := 16) rfl (Or.inl rfl) (hQ _ _ ?_) dX1_isSettled_16
    exact ⟨by unfold t1; (repeat' split) <;> omega, by rw [bI_f (fun z => z (if_none e_8))], ad, q_2R⟩
  · refine j_ifnull (pc := 8) dX1_isSettled_8 ?_
    refine j_iconst (pc := 11) dX1_isSettled_11 rfl ?_
    refine j_goto (pc := 12) (tgt := 16) dX1_isSettled_12 (by decide) ?_
    refine j_zret (pc := 16) rfl (Or.inr rfl) (hQ _ _ ?_) dX1_isSettled_16
    exact ⟨by unfold t1; (repeat' split) <;> omega, by rw [bI_t (if_some e_8).1], ad, q_2R⟩

set_option maxHeartbeats 4000000 in
theorem c_isBallot {S : Type} {Γ : GG} {A : Nat → Prop} {Rep : S → Heap → Prop} {l : Launch} (x : S) (v : Int) (hv : RR v) : Ct Γ A Rep l yX1_isBallot (ws_ yX1_isBallot cX1_isBallot 1 (some .boolean)) 2 0 0 [IV v] x (qI (fun (r : Int) (x' : S) => r = bI (0 ≤ v ∧ v ≤ 5) ∧ x' = x)) X0 := by
  refine Ct.ofJ (own := RX1) (nm := "isBallot") (lo := [some (IV v)]) pn_X1 rfl rfl (List.forall_mem_cons.mpr ⟨rfl, (fun _ h => nomatch h)⟩) (Nat.le_of_ble_eq_true rfl) rfl ?_
  have hQ : ∀ (r : Int) (x' : S), (r = bI (0 ≤ v ∧ v ≤ 5) ∧ x' = x) → (qI (fun (r : Int) (x' : S) => r = bI (0 ≤ v ∧ v ≤ 5) ∧ x' = x)) (some (IV r)) x' := fun r x' h => ⟨r, rfl, h⟩
  generalize (qI (fun (r : Int) (x' : S) => r = bI (0 ≤ v ∧ v ≤ 5) ∧ x' = x)) = QP at hQ ⊢
  refine j_iload_n (pc := 0) dX1_isBallot_0 rfl ?_
  refine j_iconst (pc := 1) dX1_isBallot_1 rfl ?_
  refine j_iconst (pc := 2) dX1_isBallot_2 rfl ?_
  refine j_callS (pc := 3) (c_isIn x v 0 5 (by omega) (by decide) (by decide)) (lw_S q440 q441 q44 q442) md_yX1_isIn (by decide) (by decide) rfl (Nat.le_of_ble_eq_true rfl) dX1_isBallot_3 (qI.k (fun r_3 s_3 q_3 => ?_))
  obtain ⟨e1q_3, e2q_3⟩ := q_3
  subst r_3
  subst s_3
  refine j_zret (pc := 6) rfl (bI_01 _) (hQ _ _ ?_) dX1_isBallot_6
  exact ⟨rfl, rfl⟩

theorem md_yX1_isBallot : MD yX1_isBallot 1 := by decide +kernel
theorem fa_X1_267_X12 : FA RX1 267 10 1 := ⟨RX12, TX12, 2, "BallotFoundry$Count", rfl, in_X12, by decide, q215, Or.inl rfl⟩
set_option maxHeartbeats 4000000 in
theorem c_numberOf {Γ : GG} {A : Nat → Prop} {K : KK} {l : Launch} (h : AL2) (hfl : l.stackTraces = false) (hke : KE Γ A K) (hfe : FE Γ) (hIOB : TH5 Γ A "java/lang/IndexOutOfBoundsException") (hIAE : TH5 Γ A "java/lang/IllegalArgumentException") (hISE : TH5 Γ A "java/lang/IllegalStateException") (o : Nat) (ad : AD) (σ : MM) (hR : Rel K h o ad σ) (hB : Bd σ) (s : Int) (hs : RR s) (p : Int) (hp : RR p) (hne : NE Γ) (hI : In σ) : Ct Γ A (Rep2 Γ A K) l yX1_numberOf (ws_ yX1_numberOf cX1_numberOf 4 (some .int)) 10 8 30 [.ref o, IV s, IV p] h (qI (fun (r : Int) (h' : AL2) => t2 (isS σ s) (0 ≤ p ∧ p ≤ 5) = 0 ∧ r = (if σ.2 32 s.toNat = -1 then -1 else σ.2 29 (6 * σ.2 32 s.toNat + p).toNat) ∧ ∃ ad', Rel K h' o ad' (σ))) (fun (E : String) (h' : AL2) => xE ["java/lang/IndexOutOfBoundsException", "java/lang/IllegalArgumentException"] (t2 (isS σ s) (0 ≤ p ∧ p ≤ 5)) E ∧ ∃ ad', Rel K h' o ad' σ) := by
  refine Ct.ofJ (own := RX1) (nm := "numberOf") (lo := [some (.ref o), some (IV s), some (IV p), none]) pn_X1 rfl rfl (List.forall_mem_cons.mpr ⟨rfl, (List.forall_mem_cons.mpr ⟨rfl, (List.forall_mem_cons.mpr ⟨rfl, (fun _ h => nomatch h)⟩)⟩)⟩) (Nat.le_of_ble_eq_true rfl) rfl ?_
  have hQ : ∀ (r : Int) (h' : AL2), (t2 (isS σ s) (0 ≤ p ∧ p ≤ 5) = 0 ∧ r = (if σ.2 32 s.toNat = -1 then -1 else σ.2 29 (6 * σ.2 32 s.toNat + p).toNat) ∧ ∃ ad', Rel K h' o ad' (σ)) → (qI (fun (r : Int) (h' : AL2) => t2 (isS σ s) (0 ≤ p ∧ p ≤ 5) = 0 ∧ r = (if σ.2 32 s.toNat = -1 then -1 else σ.2 29 (6 * σ.2 32 s.toNat + p).toNat) ∧ ∃ ad', Rel K h' o ad' (σ))) (some (IV r)) h' := fun r h' h => ⟨r, rfl, h⟩
  generalize (qI (fun (r : Int) (h' : AL2) => t2 (isS σ s) (0 ≤ p ∧ p ≤ 5) = 0 ∧ r = (if σ.2 32 s.toNat = -1 then -1 else σ.2 29 (6 * σ.2 32 s.toNat + p).toNat) ∧ ∃ ad', Rel K h' o ad' (σ))) = QP at hQ ⊢
  have hX : ∀ (E : String) (h' : AL2), (xE ["java/lang/IndexOutOfBoundsException", "java/lang/IllegalArgumentException"] (t2 (isS σ s) (0 ≤ p ∧ p ≤ 5)) E ∧ ∃ ad', Rel K h' o ad' σ) → (fun (E : String) (h' : AL2) => xE ["java/lang/IndexOutOfBoundsException", "java/lang/IllegalArgumentException"] (t2 (isS σ s) (0 ≤ p ∧ p ≤ 5)) E ∧ ∃ ad', Rel K h' o ad' σ) E h' := fun E h' h => h
  generalize (fun (E : String) (h' : AL2) => xE ["java/lang/IndexOutOfBoundsException", "java/lang/IllegalArgumentException"] (t2 (isS σ s) (0 ≤ p ∧ p ≤ 5)) E ∧ ∃ ad', Rel K h' o ad' σ) = XP at hX ⊢
  have n6 : 0 ≤ σ.1 6 ∧ σ.1 6 ≤ 5 := hB.1 6
  have n28 : 0 ≤ σ.2 28 s.toNat ∧ σ.2 28 s.toNat ≤ 20 := hB.2 28 _
  have n31 : 0 ≤ σ.2 31 s.toNat ∧ σ.2 31 s.toNat ≤ 8 := hB.2 31 _
  have n32 : -1 ≤ σ.2 32 s.toNat ∧ σ.2 32 s.toNat ≤ 39 := hB.2 32 _
  refine j_aload_n (pc := 0) dX1_numberOf_0 rfl ?_
  refine j_iload_n (pc := 1) dX1_numberOf_1 rfl ?_
  refine j_room (cl' := 2 + 6) (sl' := 10 + 20) (by omega) (by omega) ?_
  refine j_callVx (pc := 2) (c_box h hfl hke hfe hIOB o ad σ hR hB hne hI s (by omega)) (lw_V q866 q868 qs17 q44 q869) rfl md_yX1_box (RC.of2 (show h (o) = some (pO 0 [.ref (ad 1 0 0), .ref (ad 2 0 0), .ref (ad 3 0 0), .ref (ad 4 0 0), va_rf (if σ.1 14 = 0 then none else some (ad 12 0 0)), IV (σ.1 0), .ref (ad 5 0 0), .ref (ad 6 0 0)]) from hR.top) rfl) (nT _) (fun E x9 hx9 => by obtain ⟨rfl, hn9, hR9⟩ := hx9; exact hX _ _ ⟨xE_of 0 (by unfold t2; (repeat' split) <;> omega) rfl, ad, hR9⟩) (by decide) (by decide) rfl (Nat.le_of_ble_eq_true rfl) dX1_numberOf_2 (qR.k (fun r_2 s_2 q_2 => ?_))
  obtain ⟨q_2p, q_2R, b1_2, b2_2, q_2B, q_2I⟩ := q_2
  refine j_astore_n (pc := 5) dX1_numberOf_5 (by decide) (lo' := [some (.ref o), some (IV s), some (IV p), some (.ref r_2)]) rfl ?_
  refine j_iload_n (pc := 6) dX1_numberOf_6 rfl ?_
  refine j_callS (pc := 7) (c_isBallot s_2 p (by omega)) (lw_S q877 q878 q44 q879) md_yX1_isBallot (by decide) (by decide) rfl (Nat.le_of_ble_eq_true rfl) dX1_numberOf_7 (qI.k (fun r_7 s_7 q_7 => ?_))
  obtain ⟨e1q_7, e2q_7⟩ := q_7
  subst r_7
  subst s_7
  refine j_room (cl' := 1 + 1) (sl' := 4 + 6) (by omega) (by omega) ?_
  refine j_callSx (pc := 10) (c_want s_2 hfl RG.of2 hIAE (bI (0 ≤ p ∧ p ≤ 5)) (bI_01 _)) (lw_S q403 q404 q44 q405) md_yX1_want (nT _) (fun E x9 hx9 => by obtain ⟨hn9, rfl, rfl⟩ := hx9; (try have hn8 := bI_0 hn9); exact hX _ _ ⟨xE_of 1 (by unfold t2; (repeat' split) <;> omega) rfl, ad, q_2R⟩) (by decide) (by decide) rfl (Nat.le_of_ble_eq_true rfl) dX1_numberOf_10 (qV.k (fun s_10 q_10 => ?_))
  obtain ⟨q_10b, q_10e⟩ := q_10
  subst s_10
  have q_10c := bI_1 q_10b
  by_cases c_set : σ.2 32 s.toNat = -1
  · have zs_13 : s_2 r_2 = some (pO 8 [.ref b1_2, .ref b2_2, .null, IV (σ.2 21 (s).toNat)]) := by have h9 := q_2B.1; rw [if_pos c_set] at h9; exact h9
    refine j_aload_n (pc := 13) dX1_numberOf_13 rfl ?_
    refine j2_get fa_X1_246_X10 zs_13 rfl dX1_numberOf_14 ?_
    refine j_ifnonnullN (pc := 17) dX1_numberOf_17 ?_
    refine j_iconst (pc := 20) dX1_numberOf_20 rfl ?_
    refine j_goto (pc := 21) (tgt := 33) dX1_numberOf_21 (by decide) ?_
    refine j_iret (pc := 33) rfl (hQ _ _ ?_) dX1_numberOf_33
    exact ⟨by unfold t2; (repeat' split) <;> omega, by rw [if_pos c_set], ad, q_2R⟩
  · have zs_13 : s_2 r_2 = some (pO 8 [.ref b1_2, .ref b2_2, .ref (ad 24 s.toNat 0), IV (σ.2 21 (s).toNat)]) := by have h9 := q_2B.1; rw [if_neg c_set] at h9; exact h9
    obtain ⟨hz, h19⟩ := hI.boxed (s := s.toNat) (by omega) c_set
    refine j_aload_n (pc := 13) dX1_numberOf_13 rfl ?_
    refine j2_get fa_X1_246_X10 zs_13 rfl dX1_numberOf_14 ?_
    refine j_ifnonnull (pc := 17) (tgt := 24) dX1_numberOf_17 (by decide) ?_
    refine j_aload_n (pc := 24) dX1_numberOf_24 rfl ?_
    refine j2_get fa_X1_246_X10 zs_13 rfl dX1_numberOf_25 ?_
    refine j2_get fa_X1_267_X12 (show s_2 (ad 24 s.toNat 0) = some (pO 10 [IV (σ.2 30 (σ.2 32 s.toNat).toNat), .ref (ad 27 s.toNat 0)]) from q_2R.at 24 s.toNat 0 ⟨hz, h19, c_set, rfl⟩) rfl dX1_numberOf_28 ?_
    refine j_iload_n (pc := 31) dX1_numberOf_31 rfl ?_
    refine j2_iald (i := p) (show s_2 (ad 27 s.toNat 0) = some (pA 0 6 (c6 (fun q => σ.2 29 (6 * (σ.2 32 s.toNat).toNat + q)))) from q_2R.at 27 s.toNat 0 ⟨hz, h19, c_set, rfl⟩) (by show 0 ≤ p ∧ p < ((6 : Nat) : Int); omega) dX1_numberOf_32 ?_
    refine j_eqI (σ.2 29 (6 * (σ.2 32 s.toNat).toNat + ((p).toNat))) (c6_at (f := (fun q => σ.2 29 (6 * (σ.2 32 s.toNat).toNat + q))) (k := (p).toNat) (by omega)).symm ?_
    have n_1 : 0 ≤ σ.2 29 (6 * (σ.2 32 s.toNat).toNat + ((p).toNat)) ∧ σ.2 29 (6 * (σ.2 32 s.toNat).toNat + ((p).toNat)) ≤ 20 := hB.2 29 (6 * (σ.2 32 s.toNat).toNat + ((p).toNat))
    refine j_iret (pc := 33) rfl (hQ _ _ ?_) dX1_numberOf_33
    exact ⟨by unfold t2; (repeat' split) <;> omega, by rw [if_neg c_set, show (6 * σ.2 32 s.toNat + p).toNat = 6 * (σ.2 32 s.toNat).toNat + p.toNat by omega], ad, q_2R⟩

theorem fa_X1_250_X10 : FA RX1 250 8 1 := ⟨RX10, TX10, 4, "BallotFoundry$Box", rfl, in_X10, by decide, q789, Or.inl rfl⟩
theorem md_yJ2_clear : MD yJ2_clear 0 := by decide +kernel
theorem mdx_yJ2_clear : MD ⟨"java/util/List", "clear", "()V"⟩ 0 := by decide +kernel
theorem fp_X1_246_X10 : FP RX1 246 8 2 (.object "BallotFoundry$Count") false := ⟨RX10, TX10, 4, "BallotFoundry$Box", tyX10, rfl, in_X10, by decide, q793, Or.inl rfl, tyX10_ok, nmX10, rfl, rfl, fun h => nomatch h⟩
set_option maxHeartbeats 4000000 in
theorem c_recount {Γ : GG} {A : Nat → Prop} {K : KK} {l : Launch} (h : AL2) (hfl : l.stackTraces = false) (hke : KE Γ A K) (hfe : FE Γ) (hIOB : TH5 Γ A "java/lang/IndexOutOfBoundsException") (hIAE : TH5 Γ A "java/lang/IllegalArgumentException") (hISE : TH5 Γ A "java/lang/IllegalStateException") (o : Nat) (ad : AD) (σ : MM) (hR : Rel K h o ad σ) (hB : Bd σ) (s : Int) (hs : RR s) (hne : NE Γ) (hI : In σ) : Ct Γ A (Rep2 Γ A K) l yX1_recount (ws_ yX1_recount cX1_recount 4 (some .int)) 10 8 30 [.ref o, IV s] h (qI (fun (r : Int) (h' : AL2) => t2 (isS σ s) (σ.1 14 = 4) = 0 ∧ r = σ.2 31 s.toNat ∧ ∃ ad', Rel K h' o ad' (setA (setA σ 31 s.toNat 0) 32 s.toNat (-1)))) (fun (E : String) (h' : AL2) => xE ["java/lang/IndexOutOfBoundsException", "java/lang/IllegalStateException"] (t2 (isS σ s) (σ.1 14 = 4)) E ∧ ∃ ad', Rel K h' o ad' σ) := by
  refine Ct.ofJ (own := RX1) (nm := "recount") (lo := [some (.ref o), some (IV s), none, none]) pn_X1 rfl rfl (List.forall_mem_cons.mpr ⟨rfl, (List.forall_mem_cons.mpr ⟨rfl, (fun _ h => nomatch h)⟩)⟩) (Nat.le_of_ble_eq_true rfl) rfl ?_
  have hQ : ∀ (r : Int) (h' : AL2), (t2 (isS σ s) (σ.1 14 = 4) = 0 ∧ r = σ.2 31 s.toNat ∧ ∃ ad', Rel K h' o ad' (setA (setA σ 31 s.toNat 0) 32 s.toNat (-1))) → (qI (fun (r : Int) (h' : AL2) => t2 (isS σ s) (σ.1 14 = 4) = 0 ∧ r = σ.2 31 s.toNat ∧ ∃ ad', Rel K h' o ad' (setA (setA σ 31 s.toNat 0) 32 s.toNat (-1)))) (some (IV r)) h' := fun r h' h => ⟨r, rfl, h⟩
  generalize (qI (fun (r : Int) (h' : AL2) => t2 (isS σ s) (σ.1 14 = 4) = 0 ∧ r = σ.2 31 s.toNat ∧ ∃ ad', Rel K h' o ad' (setA (setA σ 31 s.toNat 0) 32 s.toNat (-1)))) = QP at hQ ⊢
  have hX : ∀ (E : String) (h' : AL2), (xE ["java/lang/IndexOutOfBoundsException", "java/lang/IllegalStateException"] (t2 (isS σ s) (σ.1 14 = 4)) E ∧ ∃ ad', Rel K h' o ad' σ) → (fun (E : String) (h' : AL2) => xE ["java/lang/IndexOutOfBoundsException", "java/lang/IllegalStateException"] (t2 (isS σ s) (σ.1 14 = 4)) E ∧ ∃ ad', Rel K h' o ad' σ) E h' := fun E h' h => h
  generalize (fun (E : String) (h' : AL2) => xE ["java/lang/IndexOutOfBoundsException", "java/lang/IllegalStateException"] (t2 (isS σ s) (σ.1 14 = 4)) E ∧ ∃ ad', Rel K h' o ad' σ) = XP at hX ⊢
  have n6 : 0 ≤ σ.1 6 ∧ σ.1 6 ≤ 5 := hB.1 6
  have n28 : 0 ≤ σ.2 28 s.toNat ∧ σ.2 28 s.toNat ≤ 20 := hB.2 28 _
  have n31 : 0 ≤ σ.2 31 s.toNat ∧ σ.2 31 s.toNat ≤ 8 := hB.2 31 _
  have n32 : -1 ≤ σ.2 32 s.toNat ∧ σ.2 32 s.toNat ≤ 39 := hB.2 32 _
  refine j_aload_n (pc := 0) dX1_recount_0 rfl ?_
  refine j_iload_n (pc := 1) dX1_recount_1 rfl ?_
  refine j_room (cl' := 2 + 6) (sl' := 10 + 20) (by omega) (by omega) ?_
  refine j_callVx (pc := 2) (c_box h hfl hke hfe hIOB o ad σ hR hB hne hI s (by omega)) (lw_V q866 q868 qs17 q44 q869) rfl md_yX1_box (RC.of2 (show h (o) = some (pO 0 [.ref (ad 1 0 0), .ref (ad 2 0 0), .ref (ad 3 0 0), .ref (ad 4 0 0), va_rf (if σ.1 14 = 0 then none else some (ad 12 0 0)), IV (σ.1 0), .ref (ad 5 0 0), .ref (ad 6 0 0)]) from hR.top) rfl) (nT _) (fun E x9 hx9 => by obtain ⟨rfl, hn9, hR9⟩ := hx9; exact hX _ _ ⟨xE_of 0 (by unfold t2; (repeat' split) <;> omega) rfl, ad, hR9⟩) (by decide) (by decide) rfl (Nat.le_of_ble_eq_true rfl) dX1_recount_2 (qR.k (fun r_2 s_2 q_2 => ?_))
  obtain ⟨q_2p, q_2R, b1_2, b2_2, q_2B, q_2I⟩ := q_2
  refine j_astore_n (pc := 5) dX1_recount_5 (by decide) (lo' := [some (.ref o), some (IV s), some (.ref r_2), none]) rfl ?_
  refine j_aload_n (pc := 6) dX1_recount_6 rfl ?_
  refine j_callV (pc := 7) (c_stage s_2 o ad σ q_2R hB) (lw_V q172 q147 q148 q44 q149) rfl md_yX1_stage (RC.of2 (show s_2 (o) = some (pO 0 [.ref (ad 1 0 0), .ref (ad 2 0 0), .ref (ad 3 0 0), .ref (ad 4 0 0), va_rf (if σ.1 14 = 0 then none else some (ad 12 0 0)), IV (σ.1 0), .ref (ad 5 0 0), .ref (ad 6 0 0)]) from q_2R.top) rfl) (by decide) (by decide) rfl (Nat.le_of_ble_eq_true rfl) dX1_recount_7 (qI.k (fun r_7 s_7 q_7 => ?_))
  obtain ⟨e1q_7, e2q_7⟩ := q_7
  subst r_7
  subst s_7
  have n14_7 : 0 ≤ σ.1 14 ∧ σ.1 14 ≤ 5 := hB.1 14
  refine j_iconst (pc := 10) dX1_recount_10 rfl ?_
  refine j_icmp_ne (pc := 11) (tgt := 18) dX1_recount_11 (by decide) (by omega) (by decide) (fun c_11 => ?_) (fun c_11 => ?_)
  · refine j_iconst (pc := 18) dX1_recount_18 rfl ?_
    refine j_room (cl' := 1 + 1) (sl' := 4 + 6) (by omega) (by omega) ?_
    refine j_callSx (pc := 19) (c_allow s_2 hfl RG.of2 hISE 0 (Or.inl rfl)) (lw_S q443 q444 q44 q445) md_yX1_allow (nT _) (fun E x9 hx9 => by obtain ⟨hn9, rfl, rfl⟩ := hx9; (try have hn8 := bI_0 hn9); exact hX _ _ ⟨xE_of 1 (by unfold t2; (repeat' split) <;> omega) rfl, ad, q_2R⟩) (by decide) (by decide) rfl (Nat.le_of_ble_eq_true rfl) dX1_recount_19 (qV.k (fun s_19 q_19 => ?_))
    exact absurd q_19.1 (by decide)
  · refine j_iconst (pc := 14) dX1_recount_14 rfl ?_
    refine j_goto (pc := 15) (tgt := 19) dX1_recount_15 (by decide) ?_
    refine j_room (cl' := 1 + 1) (sl' := 4 + 6) (by omega) (by omega) ?_
    refine j_callSx (pc := 19) (c_allow s_2 hfl RG.of2 hISE 1 (Or.inr rfl)) (lw_S q443 q444 q44 q445) md_yX1_allow (nT _) (fun E x9 hx9 => by obtain ⟨hn9, rfl, rfl⟩ := hx9; (try have hn8 := bI_0 hn9); exact hX _ _ ⟨xE_of 1 (by unfold t2; (repeat' split) <;> omega) rfl, ad, q_2R⟩) (by decide) (by decide) rfl (Nat.le_of_ble_eq_true rfl) dX1_recount_19 (qV.k (fun s_19_1 q_19_1 => ?_))
    obtain ⟨q_19_1b, q_19_1e⟩ := q_19_1
    subst s_19_1
    rcases q_2I with ⟨hz, h19, e1b, e2b, e3b⟩ | ⟨h19, ⟨nb1, nb2, nb3⟩, fob⟩
    · subst e1b
      subst e2b
      subst e3b
      refine j_aload_n (pc := 22) dX1_recount_22 rfl ?_
      refine j2_get fa_X1_250_X10 (show s_2 (ad 19 s.toNat 0) = some (pO 8 [.ref (ad 20 s.toNat 0), .ref (ad 21 s.toNat 0), va_rf (if σ.2 32 s.toNat = -1 then none else some (ad 24 s.toNat 0)), IV (σ.2 21 s.toNat)]) from q_2R.at 19 s.toNat 0 ⟨hz, h19, rfl⟩) rfl dX1_recount_23 ?_
      refine j_callF (pc := 26) (xm := ⟨"java/util/List", "size", "()I"⟩) (l2_size (show s_2 (ad 21 s.toNat 0) = some (pL (rg (σ.2 31 s.toNat) (fun n => ad 22 s.toNat n))) from q_2R.at 21 s.toNat 0 ⟨hz, h19, rfl⟩)) (lw_F q155 q159 q161 q47 q163) hfe.1 (ci := 2) rfl rfl mdx_yJ2_size (RC.ofL (show s_2 (ad 21 s.toNat 0) = some (pL (rg (σ.2 31 s.toNat) (fun n => ad 22 s.toNat n))) from q_2R.at 21 s.toNat 0 ⟨hz, h19, rfl⟩)) (by decide) (by decide) rfl (Nat.le_of_ble_eq_true rfl) dX1_recount_26 (qI.k (fun r_26 s_26 q_26 => ?_))
      obtain ⟨e1q_26, e2q_26⟩ := q_26
      subst s_26
      rw [rg_len (by omega)] at e1q_26
      subst r_26
      refine j_istore_n (pc := 31) dX1_recount_31 (by decide) (lo' := [some (.ref o), some (IV s), some (.ref (ad 19 s.toNat 0)), some (IV (σ.2 31 s.toNat))]) rfl ?_
      refine j_aload_n (pc := 32) dX1_recount_32 rfl ?_
      refine j2_get fa_X1_250_X10 (show s_2 (ad 19 s.toNat 0) = some (pO 8 [.ref (ad 20 s.toNat 0), .ref (ad 21 s.toNat 0), va_rf (if σ.2 32 s.toNat = -1 then none else some (ad 24 s.toNat 0)), IV (σ.2 21 s.toNat)]) from q_2R.at 19 s.toNat 0 ⟨hz, h19, rfl⟩) rfl dX1_recount_33 ?_
      refine j_callF (pc := 36) (xm := ⟨"java/util/List", "clear", "()V"⟩) (l2_clear (show s_2 (ad 21 s.toNat 0) = some (pL (rg (σ.2 31 s.toNat) (fun n => ad 22 s.toNat n))) from q_2R.at 21 s.toNat 0 ⟨hz, h19, rfl⟩)) (lw_F q1034 q1037 q1039 q47 q1041) hfe.2.2.2.2.1 (ci := 2) rfl rfl mdx_yJ2_clear (RC.ofL (show s_2 (ad 21 s.toNat 0) = some (pL (rg (σ.2 31 s.toNat) (fun n => ad 22 s.toNat n))) from q_2R.at 21 s.toNat 0 ⟨hz, h19, rfl⟩)) (by decide) (by decide) rfl (Nat.le_of_ble_eq_true rfl) dX1_recount_36 (qV.k (fun s_36 q_36 => ?_))
      have z_1 : s_36 (ad 21 s.toNat 0) = some (pL ([])) := by rw [q_36]; exact upH_self _ _ _
      have R_2 : Rel K s_36 o ad (setA σ 31 s.toNat 0) := q_2R.clearC hz h19 q_36 (hB.2 31 _).1
      refine j_aload_n (pc := 41) dX1_recount_41 rfl ?_
      refine j_null (pc := 42) dX1_recount_42 ?_
      refine j2_put fp_X1_246_X10 (show s_36 (ad 19 s.toNat 0) = some (pO 8 [.ref (ad 20 s.toNat 0), .ref (ad 21 s.toNat 0), va_rf (if σ.2 32 s.toNat = -1 then none else some (ad 24 s.toNat 0)), IV (σ.2 21 s.toNat)]) from R_2.at 19 s.toNat 0 ⟨hz, h19, rfl⟩) (by decide) (Nat.le_of_ble_eq_true rfl) rfl rfl dX1_recount_43 (fun h_43 e_43 => ?_)
      have z_3 : h_43 (ad 19 s.toNat 0) = some (pO 8 [.ref (ad 20 s.toNat 0), .ref (ad 21 s.toNat 0), .null, IV (σ.2 21 s.toNat)]) := by rw [e_43]; exact upH_self _ _ _
      have R_4 : Rel K h_43 o ad (setA (setA σ 31 s.toNat 0) 32 s.toNat (-1)) := R_2.unset hz h19 e_43
      refine j_iload_n (pc := 46) dX1_recount_46 rfl ?_
      refine j_iret (pc := 47) rfl (hQ _ _ ?_) dX1_recount_47
      exact ⟨by unfold t2; (repeat' split) <;> omega, rfl, ad, R_4⟩
    · have fo_r_2 : ∀ k i j, live σ k i j → ad k i j ≠ r_2 := fun k i j hl => (fob k i j hl).1
      have fo_b1_2 : ∀ k i j, live σ k i j → ad k i j ≠ b1_2 := fun k i j hl => (fob k i j hl).2.1
      have fo_b2_2 : ∀ k i j, live σ k i j → ad k i j ≠ b2_2 := fun k i j hl => (fob k i j hl).2.2
      refine j_aload_n (pc := 22) dX1_recount_22 rfl ?_
      refine j2_get fa_X1_250_X10 q_2B.1 rfl dX1_recount_23 ?_
      refine j_callF (pc := 26) (xm := ⟨"java/util/List", "size", "()I"⟩) (l2_size q_2B.2.2) (lw_F q155 q159 q161 q47 q163) hfe.1 (ci := 2) rfl rfl mdx_yJ2_size (RC.ofL q_2B.2.2) (by decide) (by decide) rfl (Nat.le_of_ble_eq_true rfl) dX1_recount_26 (qI.k (fun r_26_1 s_26_1 q_26_1 => ?_))
      obtain ⟨e1q_26_1, e2q_26_1⟩ := q_26_1
      subst s_26_1
      rw [rg_len (by omega)] at e1q_26_1
      subst r_26_1
      refine j_istore_n (pc := 31) dX1_recount_31 (by decide) (lo' := [some (.ref o), some (IV s), some (.ref r_2), some (IV (σ.2 31 (s).toNat))]) rfl ?_
      refine j_aload_n (pc := 32) dX1_recount_32 rfl ?_
      refine j2_get fa_X1_250_X10 q_2B.1 rfl dX1_recount_33 ?_
      refine j_callF (pc := 36) (xm := ⟨"java/util/List", "clear", "()V"⟩) (l2_clear q_2B.2.2) (lw_F q1034 q1037 q1039 q47 q1041) hfe.2.2.2.2.1 (ci := 2) rfl rfl mdx_yJ2_clear (RC.ofL q_2B.2.2) (by decide) (by decide) rfl (Nat.le_of_ble_eq_true rfl) dX1_recount_36 (qV.k (fun s_36_1 q_36_1 => ?_))
      have z_5 : s_36_1 r_2 = some (pO 8 [.ref b1_2, .ref b2_2, va_rf (if σ.2 32 (s).toNat = -1 then none else some (ad 24 (s).toNat 0)), IV (σ.2 21 (s).toNat)]) := by rw [q_36_1]; exact upH_d q_2B.1 nb2
      have z_6 : s_36_1 b1_2 = some (pL (rg (σ.2 28 (s).toNat) (fun n => bx K (σ.2 27 (20 * (s).toNat + n))))) := by rw [q_36_1]; exact upH_d q_2B.2.1 nb3
      have z_7 : s_36_1 b2_2 = some (pL ([])) := by rw [q_36_1]; exact upH_self _ _ _
      have R_8 : Rel K s_36_1 o ad σ := q_2R.off q_36_1 fo_b2_2
      refine j_aload_n (pc := 41) dX1_recount_41 rfl ?_
      refine j_null (pc := 42) dX1_recount_42 ?_
      refine j2_put fp_X1_246_X10 z_5 (by decide) (Nat.le_of_ble_eq_true rfl) rfl rfl dX1_recount_43 (fun h_43_1 e_43_1 => ?_)
      have z_9 : h_43_1 b1_2 = some (pL (rg (σ.2 28 (s).toNat) (fun n => bx K (σ.2 27 (20 * (s).toNat + n))))) := by rw [e_43_1]; exact upH_d z_6 (Ne.symm nb1)
      have z_10 : h_43_1 b2_2 = some (pL ([])) := by rw [e_43_1]; exact upH_d z_7 (Ne.symm nb2)
      have z_11 : h_43_1 r_2 = some (pO 8 [.ref b1_2, .ref b2_2, .null, IV (σ.2 21 (s).toNat)]) := by rw [e_43_1]; exact upH_self _ _ _
      have R_12 : Rel K h_43_1 o ad σ := R_8.off e_43_1 fo_r_2
      refine j_iload_n (pc := 46) dX1_recount_46 rfl ?_
      refine j_iret (pc := 47) rfl (hQ _ _ ?_) dX1_recount_47
      have e3 := hI.2.2.2.2.1 s.toNat (by omega) (by omega)
      have ea : setA (setA σ 31 s.toNat 0) 32 s.toNat (-1) = σ := by rw [← e3.2.2.1, setA_self, ← e3.2.2.2, setA_self]
      exact ⟨by unfold t2; (repeat' split) <;> omega, rfl, ad, by rw [ea]; exact R_12⟩

