set_option maxRecDepth 100000
def B5 (cls : String) : List Cond := [.castable cls cls, .declares ⟨"java/lang/RuntimeException", "<init>", "()V"⟩, .declares ⟨"java/lang/Exception", "<init>", "()V"⟩, .declares ⟨"java/lang/Throwable", "<init>", "()V"⟩, .privateMethod ⟨"java/lang/Throwable", "fillInStackTrace", "(I)Ljava/lang/Throwable;"⟩]
/-- what a throw of cls asks of the tables beyond the good words -/
def TH5 (Γ : GG) (A : Nat → Prop) (cls : String) : Prop := ∀ (s : State) (H : Heap), Γ.2.2 s H → (∀ w ∈ B5 cls, va_Nw w s) ∧ vx_Zq Bundle.tN "UNASSIGNED_STACK" Bundle.steD A s H ∧ vx_Zq Bundle.tN "SUPPRESSED_SENTINEL" Bundle.listD A s H
section J9
variable {S : Type} {Γ : GG} {A : Nat → Prop} {Rep : S → Heap → Prop} {l : Launch} {own nm : String} {cc : ByteArray} {nL : Nat} {ret : Option FieldType} {hh : List (Nat × Nat × Nat × Nat)} {d mc ms : Nat} {QP : Option Value → S → Prop} {XP : String → S → Prop} {cl sl : Nat} {x : S} {pc : Nat} {lo : List (Option Value)} {st : List Value}
theorem j_throw1 {cls : String} {names : List String} {ik ic : Nat} (hfl : l.stackTraces = false) (hrg : RG Rep) (hth : TH5 Γ A cls) (hcls : Bundle.fit cls = true) (hnames : ∀ n ∈ names, Bundle.fit n = true)
    (hk : Cond.classLink own ik cls ∈ lw_all) (hini : Cond.initialized cls ∈ lw_all) (hat : ∀ w ∈ (vx_at0 own ic cls names).filter goodWord, w ∈ lw_all) (hng : ∀ w ∈ (vx_at0 own ic cls names).filter (fun w => !goodWord w), w ∈ B5 cls)
    (hgood : ∀ w ∈ Cond.classLink own ik cls :: Cond.initialized cls :: vx_at0 own ic cls names, vx_ot w = true) (hT : ∀ z ∈ tableOf hh, covers z (pc + 7) = false) (hd : names.length + 3 < d) (hlo : (st.map fun v => v.category).sum + (13 * (names.length + 1) + 42) ≤ 100 * d)
    (d0 : decode cc pc = .ok (.new ik, 3)) (d3 : decode cc (pc + 3) = .ok (.dup, 1)) (d4 : decode cc (pc + 4) = .ok (.invokespecial ic, 3)) (d7 : decode cc (pc + 7) = .ok (.athrow, 1)) (hx : XP cls x) : J Γ A Rep l own nm cc nL ret hh d mc ms QP XP (cl + 1) (sl + 6) x pc lo st := by
  intro p e s m args below meth c H locs ls k n F hR hS hl h1 h2
  have hts := F.2.2.2.2.2.2.1
  have hK := F.2.2.2.2.2.2.2.2.1
  obtain ⟨t1, t2, t3⟩ := hth s s.heap hK.2.1
  have hB : ∀ w ∈ B5 cls, w.before args s = true := fun w hw => by
    have h9 := t1 w hw
    simp only [B5, List.mem_cons, List.not_mem_nil, or_false] at hw
    rcases hw with e | e | e | e | e <;> subst e <;> exact va_Nw.use rfl h9
  refine vx_throw0 F.1 F.2.1 hfl F.2.2.2.2.2.1 hcls hnames (hts _ hk) (hts _ hini) (vx_hat (B := B5 cls) (fun w hw => hts w (hat w hw)) hng hB) hgood t2 t3 hS (hl.1.trans F.2.2.1.symm) d0 d3 d4 d7 (fun z hz => hT z (by rw [← F.2.2.2.2.2.2.2.2.2]; exact hz)) hd hlo (by show k + 1 ≤ mc; omega) (by show n + 6 ≤ ms; omega) F.2.2.2.2.1 (fun t ht hz hq => ?_) hS.2.2 (by omega) (by omega)
  exact ⟨⟨x, hx, hrg x H t.heap hR hz hq⟩, Nat.le_trans hS.1 hz, fun q g1 g2 => (hq q (Nat.lt_of_lt_of_le g1 hS.1)).trans (hS.2.1 q g1 g2)⟩
end J9

theorem pn_X1 : plainName RX1 = true := by decide
theorem ta_X1_35 : ∀ w ∈ (vx_at0 RX1 35 "java/lang/IllegalArgumentException" ["java/lang/RuntimeException", "java/lang/Exception"]).filter goodWord, w ∈ lw_all := by decide +kernel
theorem tb_X1_35 : ∀ w ∈ (vx_at0 RX1 35 "java/lang/IllegalArgumentException" ["java/lang/RuntimeException", "java/lang/Exception"]).filter (fun w => !goodWord w), w ∈ B5 "java/lang/IllegalArgumentException" := by decide +kernel
theorem tg_X1_33_35 : ∀ w ∈ Cond.classLink RX1 33 "java/lang/IllegalArgumentException" :: Cond.initialized "java/lang/IllegalArgumentException" :: vx_at0 RX1 35 "java/lang/IllegalArgumentException" ["java/lang/RuntimeException", "java/lang/Exception"], vx_ot w = true := by decide +kernel
set_option maxHeartbeats 4000000 in
theorem c_want {S : Type} {Γ : GG} {A : Nat → Prop} {Rep : S → Heap → Prop} {l : Launch} (x : S) (hfl : l.stackTraces = false) (hrg : RG Rep) (hth : TH5 Γ A "java/lang/IllegalArgumentException") (b : Int) (hb : b = 0 ∨ b = 1) : Ct Γ A Rep l yX1_want (ws_ yX1_want cX1_want 1 none) 6 1 6 [IV b] x (qV (fun (x' : S) => b = 1 ∧ x' = x)) (fun (E : String) (x' : S) => b = 0 ∧ E = "java/lang/IllegalArgumentException" ∧ x' = x) := by
  refine Ct.ofJ (own := RX1) (nm := "want") (lo := [some (IV b)]) pn_X1 rfl rfl (List.forall_mem_cons.mpr ⟨rfl, (fun _ h => nomatch h)⟩) (Nat.le_of_ble_eq_true rfl) rfl ?_
  have hQ : ∀ (x' : S), (b = 1 ∧ x' = x) → (qV (fun (x' : S) => b = 1 ∧ x' = x)) none x' := fun x' h => ⟨rfl, h⟩
  generalize (qV (fun (x' : S) => b = 1 ∧ x' = x)) = QP at hQ ⊢
  have hX : ∀ (E : String) (x' : S), (b = 0 ∧ E = "java/lang/IllegalArgumentException" ∧ x' = x) → (fun (E : String) (x' : S) => b = 0 ∧ E = "java/lang/IllegalArgumentException" ∧ x' = x) E x' := fun E x' h => h
  generalize (fun (E : String) (x' : S) => b = 0 ∧ E = "java/lang/IllegalArgumentException" ∧ x' = x) = XP at hX ⊢
  refine j_iload_n (pc := 0) dX1_want_0 rfl ?_
  refine j_if_ne (pc := 1) (tgt := 12) dX1_want_1 (by decide) (by omega) (fun c_1 => ?_) (fun c_1 => ?_)
  · refine j_vret (pc := 12) rfl (hQ _ ?_) dX1_want_12
    exact ⟨by omega, rfl⟩
  · refine j_room (cl' := 0 + 1) (sl' := 0 + 6) (by omega) (by omega) ?_
    exact j_throw1 (pc := 4) (cls := "java/lang/IllegalArgumentException") (names := ["java/lang/RuntimeException", "java/lang/Exception"]) hfl hrg hth (by decide) (by decide) q406 q56 ta_X1_35 tb_X1_35 tg_X1_33_35 (nT _) (by decide) (Nat.le_of_ble_eq_true rfl) dX1_want_4 dX1_want_7 dX1_want_8 dX1_want_11 (hX _ _ ⟨by omega, rfl, rfl⟩)

theorem ta_X1_38 : ∀ w ∈ (vx_at0 RX1 38 "java/lang/IllegalStateException" ["java/lang/RuntimeException", "java/lang/Exception"]).filter goodWord, w ∈ lw_all := by decide +kernel
theorem tb_X1_38 : ∀ w ∈ (vx_at0 RX1 38 "java/lang/IllegalStateException" ["java/lang/RuntimeException", "java/lang/Exception"]).filter (fun w => !goodWord w), w ∈ B5 "java/lang/IllegalStateException" := by decide +kernel
theorem tg_X1_36_38 : ∀ w ∈ Cond.classLink RX1 36 "java/lang/IllegalStateException" :: Cond.initialized "java/lang/IllegalStateException" :: vx_at0 RX1 38 "java/lang/IllegalStateException" ["java/lang/RuntimeException", "java/lang/Exception"], vx_ot w = true := by decide +kernel
set_option maxHeartbeats 4000000 in
theorem c_allow {S : Type} {Γ : GG} {A : Nat → Prop} {Rep : S → Heap → Prop} {l : Launch} (x : S) (hfl : l.stackTraces = false) (hrg : RG Rep) (hth : TH5 Γ A "java/lang/IllegalStateException") (b : Int) (hb : b = 0 ∨ b = 1) : Ct Γ A Rep l yX1_allow (ws_ yX1_allow cX1_allow 1 none) 6 1 6 [IV b] x (qV (fun (x' : S) => b = 1 ∧ x' = x)) (fun (E : String) (x' : S) => b = 0 ∧ E = "java/lang/IllegalStateException" ∧ x' = x) := by
  refine Ct.ofJ (own := RX1) (nm := "allow") (lo := [some (IV b)]) pn_X1 rfl rfl (List.forall_mem_cons.mpr ⟨rfl, (fun _ h => nomatch h)⟩) (Nat.le_of_ble_eq_true rfl) rfl ?_
  have hQ : ∀ (x' : S), (b = 1 ∧ x' = x) → (qV (fun (x' : S) => b = 1 ∧ x' = x)) none x' := fun x' h => ⟨rfl, h⟩
  generalize (qV (fun (x' : S) => b = 1 ∧ x' = x)) = QP at hQ ⊢
  have hX : ∀ (E : String) (x' : S), (b = 0 ∧ E = "java/lang/IllegalStateException" ∧ x' = x) → (fun (E : String) (x' : S) => b = 0 ∧ E = "java/lang/IllegalStateException" ∧ x' = x) E x' := fun E x' h => h
  generalize (fun (E : String) (x' : S) => b = 0 ∧ E = "java/lang/IllegalStateException" ∧ x' = x) = XP at hX ⊢
  refine j_iload_n (pc := 0) dX1_allow_0 rfl ?_
  refine j_if_ne (pc := 1) (tgt := 12) dX1_allow_1 (by decide) (by omega) (fun c_1 => ?_) (fun c_1 => ?_)
  · refine j_vret (pc := 12) rfl (hQ _ ?_) dX1_allow_12
    exact ⟨by omega, rfl⟩
  · refine j_room (cl' := 0 + 1) (sl' := 0 + 6) (by omega) (by omega) ?_
    exact j_throw1 (pc := 4) (cls := "java/lang/IllegalStateException") (names := ["java/lang/RuntimeException", "java/lang/Exception"]) hfl hrg hth (by decide) (by decide) q446 q57 ta_X1_38 tb_X1_38 tg_X1_36_38 (nT _) (by decide) (Nat.le_of_ble_eq_true rfl) dX1_allow_4 dX1_allow_7 dX1_allow_8 dX1_allow_11 (hX _ _ ⟨by omega, rfl, rfl⟩)

set_option maxHeartbeats 4000000 in
theorem c_isIn {S : Type} {Γ : GG} {A : Nat → Prop} {Rep : S → Heap → Prop} {l : Launch} (x : S) (v a b : Int) (hv : RR v) (ha : RR a) (hb : RR b) : Ct Γ A Rep l yX1_isIn (ws_ yX1_isIn cX1_isIn 3 (some .boolean)) 1 0 0 [IV v, IV a, IV b] x (qI (fun (r : Int) (x' : S) => r = bI (a ≤ v ∧ v ≤ b) ∧ x' = x)) X0 := by
  refine Ct.ofJ (own := RX1) (nm := "isIn") (lo := [some (IV v), some (IV a), some (IV b)]) pn_X1 rfl rfl (List.forall_mem_cons.mpr ⟨rfl, (List.forall_mem_cons.mpr ⟨rfl, (List.forall_mem_cons.mpr ⟨rfl, (fun _ h => nomatch h)⟩)⟩)⟩) (Nat.le_of_ble_eq_true rfl) rfl ?_
  have hQ : ∀ (r : Int) (x' : S), (r = bI (a ≤ v ∧ v ≤ b) ∧ x' = x) → (qI (fun (r : Int) (x' : S) => r = bI (a ≤ v ∧ v ≤ b) ∧ x' = x)) (some (IV r)) x' := fun r x' h => ⟨r, rfl, h⟩
  generalize (qI (fun (r : Int) (x' : S) => r = bI (a ≤ v ∧ v ≤ b) ∧ x' = x)) = QP at hQ ⊢
  refine j_iload_n (pc := 0) dX1_isIn_0 rfl ?_
  refine j_iload_n (pc := 1) dX1_isIn_1 rfl ?_
  refine j_icmp_lt (pc := 2) (tgt := 14) dX1_isIn_2 (by decide) (by omega) (by omega) (fun c_2 => ?_) (fun c_2 => ?_)
  · refine j_iconst (pc := 14) dX1_isIn_14 rfl ?_
    refine j_zret (pc := 15) rfl (Or.inl rfl) (hQ _ _ ?_) dX1_isIn_15
    exact ⟨by unfold bI; split <;> omega, rfl⟩
  · refine j_iload_n (pc := 5) dX1_isIn_5 rfl ?_
    refine j_iload_n (pc := 6) dX1_isIn_6 rfl ?_
    refine j_icmp_gt (pc := 7) (tgt := 14) dX1_isIn_7 (by decide) (by omega) (by omega) (fun c_7 => ?_) (fun c_7 => ?_)
    · refine j_iconst (pc := 14) dX1_isIn_14 rfl ?_
      refine j_zret (pc := 15) rfl (Or.inl rfl) (hQ _ _ ?_) dX1_isIn_15
      exact ⟨by unfold bI; split <;> omega, rfl⟩
    · refine j_iconst (pc := 10) dX1_isIn_10 rfl ?_
      refine j_goto (pc := 11) (tgt := 15) dX1_isIn_11 (by decide) ?_
      refine j_zret (pc := 15) rfl (Or.inr rfl) (hQ _ _ ?_) dX1_isIn_15
      exact ⟨by unfold bI; split <;> omega, rfl⟩

set_option maxHeartbeats 4000000 in
theorem c_street {S : Type} {Γ : GG} {A : Nat → Prop} {Rep : S → Heap → Prop} {l : Launch} (x : S) (a b : Int) (ha : 0 ≤ a ∧ a ≤ 35) (hb : 0 ≤ b ∧ b ≤ 35) : Ct Γ A Rep l yX1_street (ws_ yX1_street cX1_street 4 (some .int)) 2 0 0 [IV a, IV b] x (qI (fun (r : Int) (x' : S) => r = sStreet a b ∧ x' = x)) X0 := by
  refine Ct.ofJ (own := RX1) (nm := "street") (lo := [some (IV a), some (IV b), none, none]) pn_X1 rfl rfl (List.forall_mem_cons.mpr ⟨rfl, (List.forall_mem_cons.mpr ⟨rfl, (fun _ h => nomatch h)⟩)⟩) (Nat.le_of_ble_eq_true rfl) rfl ?_
  have hQ : ∀ (r : Int) (x' : S), (r = sStreet a b ∧ x' = x) → (qI (fun (r : Int) (x' : S) => r = sStreet a b ∧ x' = x)) (some (IV r)) x' := fun r x' h => ⟨r, rfl, h⟩
  generalize (qI (fun (r : Int) (x' : S) => r = sStreet a b ∧ x' = x)) = QP at hQ ⊢
  refine j_iload_n (pc := 0) dX1_street_0 rfl ?_
  refine j_iload_n (pc := 1) dX1_street_1 rfl ?_
  refine j_callS (pc := 2) (k_min x a b (by omega) (by omega)) (lw_S q397 q398 q55 q399) md_yJ9_min (by decide) (by decide) rfl (Nat.le_of_ble_eq_true rfl) dX1_street_2 (qI.k (fun r_2 s_2 q_2 => ?_))
  obtain ⟨e1q_2, e2q_2⟩ := q_2
  subst r_2
  subst s_2
  refine j_istore_n (pc := 5) dX1_street_5 (by decide) (lo' := [some (IV a), some (IV b), some (IV (min a b)), none]) rfl ?_
  refine j_iload_n (pc := 6) dX1_street_6 rfl ?_
  refine j_iload_n (pc := 7) dX1_street_7 rfl ?_
  refine j_callS (pc := 8) (k_max x a b (by omega) (by omega)) (lw_S q400 q401 q55 q402) md_yJ9_max (by decide) (by decide) rfl (Nat.le_of_ble_eq_true rfl) dX1_street_8 (qI.k (fun r_8 s_8 q_8 => ?_))
  obtain ⟨e1q_8, e2q_8⟩ := q_8
  subst r_8
  subst s_8
  refine j_istore_n (pc := 11) dX1_street_11 (by decide) (lo' := [some (IV a), some (IV b), some (IV (min a b)), some (IV (max a b))]) rfl ?_
  refine j_iload_n (pc := 12) dX1_street_12 rfl ?_
  refine j_iload_n (pc := 13) dX1_street_13 rfl ?_
  refine j_isub (pc := 14) dX1_street_14 ?_
  refine j_bipush (pc := 15) (a := 6) dX1_street_15 (by decide) ?_
  refine j_icmp_ne (pc := 17) (tgt := 25) dX1_street_17 (by decide) (by omega) (by decide) (fun c_17 => ?_) (fun c_17 => ?_)
  · refine j_iload_n (pc := 25) dX1_street_25 rfl ?_
    refine j_iload_n (pc := 26) dX1_street_26 rfl ?_
    refine j_isub (pc := 27) dX1_street_27 ?_
    refine j_iconst (pc := 28) dX1_street_28 rfl ?_
    refine j_icmp_ne (pc := 29) (tgt := 43) dX1_street_29 (by decide) (by omega) (by decide) (fun c_29 => ?_) (fun c_29 => ?_)
    · refine j_iconst (pc := 43) dX1_street_43 rfl ?_
      refine j_iret (pc := 44) rfl (hQ _ _ ?_) dX1_street_44
      exact ⟨by unfold sStreet; (repeat' split) <;> omega, rfl⟩
    · refine j_iload_n (pc := 32) dX1_street_32 rfl ?_
      refine j_bipush (pc := 33) (a := 6) dX1_street_33 (by decide) ?_
      refine j_irem (pc := 35) dX1_street_35 (by omega) (by omega) ?_
      refine j_if_eq (pc := 36) (tgt := 43) dX1_street_36 (by decide) (by omega) (fun c_36 => ?_) (fun c_36 => ?_)
      · refine j_iconst (pc := 43) dX1_street_43 rfl ?_
        refine j_iret (pc := 44) rfl (hQ _ _ ?_) dX1_street_44
        exact ⟨by unfold sStreet; (repeat' split) <;> omega, rfl⟩
      · refine j_iload_n (pc := 39) dX1_street_39 rfl ?_
        refine j_goto (pc := 40) (tgt := 44) dX1_street_40 (by decide) ?_
        refine j_iret (pc := 44) rfl (hQ _ _ ?_) dX1_street_44
        exact ⟨by unfold sStreet; (repeat' split) <;> omega, rfl⟩
  · refine j_bipush (pc := 20) (a := 36) dX1_street_20 (by decide) ?_
    refine j_iload_n (pc := 22) dX1_street_22 rfl ?_
    refine j_iadd (pc := 23) dX1_street_23 ?_
    refine j_iret (pc := 24) rfl (hQ _ _ ?_) dX1_street_24
    exact ⟨by unfold sStreet; (repeat' split) <;> omega, rfl⟩

def exE (f : Nat → Int) (m : Nat) : Prop := ∀ i : Nat, i < m → 0 ≤ f (2 * i) ∧ f (2 * i) < f (2 * i + 1)

theorem ta_X1_41 : ∀ w ∈ (vx_at0 RX1 41 "java/lang/IndexOutOfBoundsException" ["java/lang/RuntimeException", "java/lang/Exception"]).filter goodWord, w ∈ lw_all := by decide +kernel
theorem tb_X1_41 : ∀ w ∈ (vx_at0 RX1 41 "java/lang/IndexOutOfBoundsException" ["java/lang/RuntimeException", "java/lang/Exception"]).filter (fun w => !goodWord w), w ∈ B5 "java/lang/IndexOutOfBoundsException" := by decide +kernel
theorem tg_X1_39_41 : ∀ w ∈ Cond.classLink RX1 39 "java/lang/IndexOutOfBoundsException" :: Cond.initialized "java/lang/IndexOutOfBoundsException" :: vx_at0 RX1 41 "java/lang/IndexOutOfBoundsException" ["java/lang/RuntimeException", "java/lang/Exception"], vx_ot w = true := by decide +kernel
set_option maxHeartbeats 4000000 in
theorem c_exist {Γ : GG} {A : Nat → Prop} {K : KK} {l : Launch} (h : AL2) (hfl : l.stackTraces = false) (hrg : RG (Rep2 Γ A K)) (hth : TH5 Γ A "java/lang/IndexOutOfBoundsException") (a m : Nat) (f : Nat → Int) (hf : ∀ i, RR (f i)) (hm : m ≤ 2) (ha : h a = some (pA 0 (2 * m) f)) : Ct Γ A (Rep2 Γ A K) l yX1_exist (ws_ yX1_exist cX1_exist 2 none) 6 1 6 [.ref a] h (qV (fun (h' : AL2) => exE f m ∧ h' = h)) (fun (E : String) (h' : AL2) => E = "java/lang/IndexOutOfBoundsException" ∧ ¬ exE f m ∧ h' = h) := by
  refine Ct.ofJ (own := RX1) (nm := "exist") (lo := [some (.ref a), none]) pn_X1 rfl rfl (List.forall_mem_cons.mpr ⟨rfl, (fun _ h => nomatch h)⟩) (Nat.le_of_ble_eq_true rfl) rfl ?_
  have hQ : ∀ (h' : AL2), (exE f m ∧ h' = h) → (qV (fun (h' : AL2) => exE f m ∧ h' = h)) none h' := fun h' h => ⟨rfl, h⟩
  generalize (qV (fun (h' : AL2) => exE f m ∧ h' = h)) = QP at hQ ⊢
  have hX : ∀ (E : String) (h' : AL2), (E = "java/lang/IndexOutOfBoundsException" ∧ ¬ exE f m ∧ h' = h) → (fun (E : String) (h' : AL2) => E = "java/lang/IndexOutOfBoundsException" ∧ ¬ exE f m ∧ h' = h) E h' := fun E h' h => h
  generalize (fun (E : String) (h' : AL2) => E = "java/lang/IndexOutOfBoundsException" ∧ ¬ exE f m ∧ h' = h) = XP at hX ⊢
  refine j_iconst (pc := 0) dX1_exist_0 rfl ?_
  refine j_istore_n (pc := 1) dX1_exist_1 (by decide) (lo' := [some (.ref a), some (IV 0)]) rfl ?_
  have hl_2 : ∀ (fu : Nat) (q : Nat) (k : Nat), m - q < fu → k = 2 * q → q ≤ m → (∀ i : Nat, i < q → 0 ≤ f (2 * i) ∧ f (2 * i) < f (2 * i + 1)) → J Γ A (Rep2 Γ A K) l RX1 "exist" cX1_exist 2 none [] 6 1 6 QP XP 1 6 h 2 [some (.ref a), some (IV (k : Int))] [] := by
    intro fu
    induction fu with
    | zero => intro q k hm; exact absurd hm (Nat.not_lt_zero _)
    | succ fu ih_2 =>
      intro q k hm hk hq hok
      refine j_iload_n (pc := 2) dX1_exist_2 rfl ?_
      refine j_aload_n (pc := 3) dX1_exist_3 rfl ?_
      refine j2_alen (Or.inl rfl) ha dX1_exist_4 ?_
      refine j_icmp_ge (pc := 5) (tgt := 39) dX1_exist_5 (by decide) (by omega) (by omega) (fun c_5 => ?_) (fun c_5 => ?_)
      · refine j_vret (pc := 39) rfl (hQ _ ?_) dX1_exist_39
        have e9 : q = m := by omega
        exact ⟨by rw [← e9]; exact hok, rfl⟩
      · refine j_aload_n (pc := 8) dX1_exist_8 rfl ?_
        refine j_iload_n (pc := 9) dX1_exist_9 rfl ?_
        refine j2_iald (i := (k : Int)) ha (by show 0 ≤ (k : Int) ∧ (k : Int) < ((2 * m : Nat) : Int); omega) dX1_exist_10 ?_
        refine j_eqI (f k) rfl ?_
        refine j_nameI (fun x_10 ex_10 => ?_)
        have r10 : RR x_10 := by rw [ex_10]; exact hf _
        have f10 : x_10 = f k := ex_10
        refine j_if_lt (pc := 11) (tgt := 25) dX1_exist_11 (by decide) (by omega) (fun c_11 => ?_) (fun c_11 => ?_)
        · refine j_room (cl' := 0 + 1) (sl' := 0 + 6) (by omega) (by omega) ?_
          exact j_throw1 (pc := 25) (cls := "java/lang/IndexOutOfBoundsException") (names := ["java/lang/RuntimeException", "java/lang/Exception"]) hfl hrg hth (by decide) (by decide) q373 q52 ta_X1_41 tb_X1_41 tg_X1_39_41 (nT _) (by decide) (Nat.le_of_ble_eq_true rfl) dX1_exist_25 dX1_exist_28 dX1_exist_29 dX1_exist_32 (hX _ _ ⟨rfl, fun z => by have z9 := z q (by omega); rw [← hk] at z9; omega, rfl⟩)
        · refine j_aload_n (pc := 14) dX1_exist_14 rfl ?_
          refine j_iload_n (pc := 15) dX1_exist_15 rfl ?_
          refine j2_iald (i := (k : Int)) ha (by show 0 ≤ (k : Int) ∧ (k : Int) < ((2 * m : Nat) : Int); omega) dX1_exist_16 ?_
          refine j_eqI (f k) rfl ?_
          refine j_nameI (fun x_16 ex_16 => ?_)
          refine j_aload_n (pc := 17) dX1_exist_17 rfl ?_
          refine j_iload_n (pc := 18) dX1_exist_18 rfl ?_
          refine j_iconst (pc := 19) dX1_exist_19 rfl ?_
          refine j_iadd (pc := 20) dX1_exist_20 ?_
          refine j2_iald (i := (k : Int) + 1) ha (by show 0 ≤ (k : Int) + 1 ∧ (k : Int) + 1 < ((2 * m : Nat) : Int); omega) dX1_exist_21 ?_
          refine j_nameI (fun x_21 ex_21 => ?_)
          have f16 : x_16 = f k := ex_16
          have r16 : RR x_16 := by rw [ex_16]; exact hf _
          have r21 : RR x_21 := by rw [ex_21]; exact hf _
          have f21 : x_21 = f (k + 1) := by rw [ex_21]; rfl
          refine j_icmp_lt (pc := 22) (tgt := 33) dX1_exist_22 (by decide) (by omega) (by omega) (fun c_22 => ?_) (fun c_22 => ?_)
          · refine j_iinc (pc := 33) dX1_exist_33 rfl (by decide) (lo' := [some (.ref a), some (IV ((k : Int) + 2))]) rfl ?_
            refine j_goto (pc := 36) (tgt := 2) dX1_exist_36 (by decide) ?_
            exact ih_2 (q + 1) (k + 2) (by omega) (by omega) (by omega) (fun i hi => by rcases Nat.lt_or_ge i q with h9 | h9; exact hok i h9; (rw [show i = q by omega, ← hk]; omega))
          · refine j_room (cl' := 0 + 1) (sl' := 0 + 6) (by omega) (by omega) ?_
            exact j_throw1 (pc := 25) (cls := "java/lang/IndexOutOfBoundsException") (names := ["java/lang/RuntimeException", "java/lang/Exception"]) hfl hrg hth (by decide) (by decide) q373 q52 ta_X1_41 tb_X1_41 tg_X1_39_41 (nT _) (by decide) (Nat.le_of_ble_eq_true rfl) dX1_exist_25 dX1_exist_28 dX1_exist_29 dX1_exist_32 (hX _ _ ⟨rfl, fun z => by have z9 := z q (by omega); rw [← hk] at z9; omega, rfl⟩)
  exact hl_2 _ 0 0 (Nat.lt_succ_self _) (by omega) (by omega) (fun i hi => absurd hi (Nat.not_lt_zero _))

