set_option maxRecDepth 100000
theorem and_1 {a : Int} (h : a = 0 ∨ a = 1) : iI a &&& iI 1 = iI a := by rcases h with h | h <;> subst h <;> rfl
theorem and_0 {a : Int} (h : a = 0 ∨ a = 1) : iI a &&& iI 0 = iI 0 := by rcases h with h | h <;> subst h <;> rfl
theorem arrV_ext {c : ClassId} {n : Nat} {f g : Nat → Value} (h : ∀ k : Nat, k < n → f k = g k) : arrV c n f = arrV c n g := by
  unfold arrV
  have e : (fun j : Fin n => f j.val) = (fun j : Fin n => g j.val) := funext fun j => h j.val j.isLt
  rw [e]
theorem upH_sw {α : Type} {h : Nat → Option α} {a b : Nat} {x y : α} (e : a ≠ b) : upH (upH h a x) b y = upH (upH h b y) a x := by
  funext z
  unfold upH
  by_cases h1 : z = b
  · subst h1; rw [if_pos rfl, if_neg (Ne.symm e), if_pos rfl]
  · rw [if_neg h1]
    by_cases h2 : z = a
    · rw [if_pos h2, if_pos h2]
    · rw [if_neg h2, if_neg h2, if_neg h1]
/-- what isn't read doesn't count -/
theorem aCell_ext {c : ClassId} {t n : Nat} {f g : Nat → Int} (h : ∀ k : Nat, k < n → f k = g k) : aCell c t n f = aCell c t n g := by
  unfold aCell
  split
  · show arrV c n (fun j => .long (Int64.ofInt (f j))) = arrV c n (fun j => .long (Int64.ofInt (g j)))
    exact arrV_ext fun k hk => by rw [h k hk]
  · show arrV c n (fun j => .int (iI (f j))) = arrV c n (fun j => .int (iI (g j)))
    exact arrV_ext fun k hk => by rw [h k hk]
/-- the ballots that slip: SLIPPED -/
def SE (Γ : GG) (A : Nat → Prop) (K : KK) : Prop := (∀ (s : State) (H : Heap), Γ.2.2 s H → va_Z "BallotFoundry" "SLIPPED" "[I" (.ref (K 3)) A s H) ∧ ∀ (s : State) (H : Heap), Γ.2.2 s H → va_T .int (K 3) 6 (fun k => IV (((k : Int) + 1) % 6)) A s H
/-- what a ballot is read as -/
def rdI (b : Nat → Int) (sl : Int) (n : Nat) : Int := if 0 < sl ∧ ((n : Int) + 1) % sl = 0 then (b n + 1) % 6 else b n
def rdN (b : Nat → Int) (sl : Int) : Nat → (Nat → Int)
  | 0 => fun _ => 0
  | n + 1 => uA (rdN b sl n) (rdI b sl n).toNat (rdN b sl n (rdI b sl n).toNat + 1)
theorem rdI_rng {b : Nat → Int} (hb : ∀ i, 0 ≤ b i ∧ b i ≤ 5) (sl : Int) (n : Nat) : 0 ≤ rdI b sl n ∧ rdI b sl n ≤ 5 := by
  unfold rdI
  have := hb n
  split <;> omega
theorem rdN_rng (b : Nat → Int) (sl : Int) : ∀ (n k : Nat), 0 ≤ rdN b sl n k ∧ rdN b sl n k ≤ n
  | 0, k => by unfold rdN; omega
  | n + 1, k => by
    unfold rdN
    have h1 := rdN_rng b sl n k
    have h2 := rdN_rng b sl n (rdI b sl n).toNat
    rw [uA_ap]
    split <;> omega
/-- do two counts agree -/
def agN (c d : Int) (f g : Nat → Int) : Nat → Int
  | 0 => if c = d then 0 else 1
  | k + 1 => if agN c d f g k = 1 ∧ f k = g k then 1 else 0
theorem agN_01 (c d : Int) (f g : Nat → Int) : ∀ k : Nat, agN c d f g k = 0 ∨ agN c d f g k = 1
  | 0 => by unfold agN; split <;> simp
  | k + 1 => by unfold agN; split <;> simp

section J11
variable {Γ : GG} {A : Nat → Prop} {K : KK} {l : Launch} {own nm : String} {cc : ByteArray} {nL : Nat} {ret : Option FieldType} {hh : List (Nat × Nat × Nat × Nat)} {d mc ms : Nat} {QP : Option Value → AL2 → Prop} {XP : String → AL2 → Prop} {cl sl : Nat} {h : AL2} {pc : Nat} {lo : List (Option Value)} {st : List Value}
theorem j2_ext {a t n0 : Nat} {f f9 : Nat → Int} (ha : h a = some (pA t n0 f)) (hf : ∀ j : Nat, j < n0 → f j = f9 j) (kk : ∀ h' : AL2, h' = upH h a (pA t n0 f9) → J Γ A (Rep2 Γ A K) l own nm cc nL ret hh d mc ms QP XP cl sl h' pc lo st) : J Γ A (Rep2 Γ A K) l own nm cc nL ret hh d mc ms QP XP cl sl h pc lo st := by
  intro p e s m args below meth c H locs ls k n F hR hS hl h1 h2
  obtain ⟨g, hR1, hL⟩ := hR
  have g1 := (hL a _ ha).1
  have g2 := (hR1 a _ g1).2
  exact kk _ rfl p e s m args below meth c H locs ls k n F ⟨upH g a (aA t n0 f9), hR1.set g1 ⟨g2.1, g2.2.trans (congrArg some (aCell_ext hf))⟩ (fun _ _ => rfl), hL.set ha trivial⟩ hS hl h1 h2
end J11

theorem pn_X12 : plainName RX12 = true := by decide
theorem fp_X12_9_X12 : FP RX12 9 10 1 (.array .int) true := ⟨RX12, TX12, 2, "BallotFoundry$Count", tyX12, rfl, in_X12, by decide, q212, Or.inl rfl, tyX12_ok, nmX12, rfl, rfl, fun _ => rfl⟩
theorem fp_X12_15_X12 : FP RX12 15 10 0 (.int) true := ⟨RX12, TX12, 2, "BallotFoundry$Count", tyX12, rfl, in_X12, by decide, q211, Or.inl rfl, tyX12_ok, nmX12, rfl, rfl, fun _ => rfl⟩
set_option maxHeartbeats 4000000 in
theorem c_coInit {Γ : GG} {A : Nat → Prop} {K : KK} {l : Launch} (h : AL2) (hke : KE Γ A K) (q : Nat) (c : Int) (hq : h q = some (pO 10 [IV 0, .null])) : Ct Γ A (Rep2 Γ A K) l yX12_init (ws_ yX12_init cX12_init 2 none) 2 1 6 [.ref q, IV c] h (qV (fun (h' : AL2) => ∃ nb, h nb = none ∧ nb ≠ q ∧ h' = upH (upH h nb (pA 0 6 (fun _ => 0))) q (pO 10 [IV c, .ref nb]))) X0 := by
  refine Ct.ofJ (own := RX12) (nm := "<init>") (lo := [some (.ref q), some (IV c)]) pn_X12 rfl rfl (List.forall_mem_cons.mpr ⟨rfl, (List.forall_mem_cons.mpr ⟨rfl, (fun _ h => nomatch h)⟩)⟩) (Nat.le_of_ble_eq_true rfl) rfl ?_
  have hQ : ∀ (h' : AL2), (∃ nb, h nb = none ∧ nb ≠ q ∧ h' = upH (upH h nb (pA 0 6 (fun _ => 0))) q (pO 10 [IV c, .ref nb])) → (qV (fun (h' : AL2) => ∃ nb, h nb = none ∧ nb ≠ q ∧ h' = upH (upH h nb (pA 0 6 (fun _ => 0))) q (pO 10 [IV c, .ref nb]))) none h' := fun h' h => ⟨rfl, h⟩
  generalize (qV (fun (h' : AL2) => ∃ nb, h nb = none ∧ nb ≠ q ∧ h' = upH (upH h nb (pA 0 6 (fun _ => 0))) q (pO 10 [IV c, .ref nb]))) = QP at hQ ⊢
  refine j_aload_n (pc := 0) dX12_init_0 rfl ?_
  refine j_objInit (pc := 1) q210 q87 q88 (by decide) (Nat.le_of_ble_eq_true rfl) dX12_init_1 ?_
  refine j_aload_n (pc := 4) dX12_init_4 rfl ?_
  refine j_bipush (pc := 5) (a := 6) dX12_init_5 (by decide) ?_
  refine j_room (cl' := 0 + 1) (sl' := 0 + 6) (by omega) (by omega) ?_
  refine j2_newa (i := 6) (N := 6) (atype := .int) hke.1 (Or.inl ⟨rfl, rfl⟩) q141 (by omega) (by omega) (by omega) dX12_init_7 (fun a_7 h_7 n_7 e_7 => ?_)
  have z_1 : h_7 q = some (pO 10 [IV 0, .null]) := by rw [e_7]; exact upH_old hq n_7
  have z_2 : h_7 a_7 = some (pA 0 6 (fun _ => 0)) := by rw [e_7]; exact upH_self _ _ _
  refine j2_putF rfl fp_X12_9_X12 z_1 (by decide) (Nat.le_of_ble_eq_true rfl) rfl rfl dX12_init_9 (fun h_9 e_9 => ?_)
  have z_3 : h_9 a_7 = some (pA 0 6 (fun _ => 0)) := by rw [e_9]; exact upH_k z_2 z_1 (by intro z; cases z)
  have z_4 : h_9 q = some (pO 10 [IV 0, .ref a_7]) := by rw [e_9]; exact upH_self _ _ _
  refine j_aload_n (pc := 12) dX12_init_12 rfl ?_
  refine j_iload_n (pc := 13) dX12_init_13 rfl ?_
  refine j2_putF rfl fp_X12_15_X12 z_4 (by decide) (Nat.le_of_ble_eq_true rfl) rfl rfl dX12_init_14 (fun h_14 e_14 => ?_)
  have z_5 : h_14 a_7 = some (pA 0 6 (fun _ => 0)) := by rw [e_14]; exact upH_k z_3 z_4 (by intro z; cases z)
  have z_6 : h_14 q = some (pO 10 [IV c, .ref a_7]) := by rw [e_14]; exact upH_self _ _ _
  refine j_vret (pc := 17) rfl (hQ _ ?_) dX12_init_17
  exact ⟨a_7, n_7, Ne.symm (fresh_ne hq n_7), by rw [e_14, e_9, upH_upH, e_7]; rfl⟩

theorem fa_X12_15_X12 : FA RX12 15 10 0 := ⟨RX12, TX12, 2, "BallotFoundry$Count", rfl, in_X12, by decide, q211, Or.inl rfl⟩
theorem md_yX12_init : MD yX12_init 1 := by decide +kernel
theorem fa_X12_9_X12 : FA RX12 9 10 1 := ⟨RX12, TX12, 2, "BallotFoundry$Count", rfl, in_X12, by decide, q212, Or.inl rfl⟩
set_option maxHeartbeats 4000000 in
theorem c_coCopy {Γ : GG} {A : Nat → Prop} {K : KK} {l : Launch} (h : AL2) (hke : KE Γ A K) (q r rb : Nat) (c : Int) (f : Nat → Int) (hq : h q = some (pO 10 [IV 0, .null])) (hr : h r = some (pO 10 [IV c, .ref rb])) (hrb : h rb = some (pA 0 6 f)) (hqr : r ≠ q) : Ct Γ A (Rep2 Γ A K) l yX12_init_2 (ws_ yX12_init_2 cX12_init_2 3 none) 3 1 6 [.ref q, .ref r] h (qV (fun (h' : AL2) => ∃ nb, h nb = none ∧ nb ≠ q ∧ h' = upH (upH h nb (pA 0 6 f)) q (pO 10 [IV c, .ref nb]))) X0 := by
  refine Ct.ofJ (own := RX12) (nm := "<init>") (lo := [some (.ref q), some (.ref r), none]) pn_X12 rfl rfl (List.forall_mem_cons.mpr ⟨rfl, (List.forall_mem_cons.mpr ⟨rfl, (fun _ h => nomatch h)⟩)⟩) (Nat.le_of_ble_eq_true rfl) rfl ?_
  have hQ : ∀ (h' : AL2), (∃ nb, h nb = none ∧ nb ≠ q ∧ h' = upH (upH h nb (pA 0 6 f)) q (pO 10 [IV c, .ref nb])) → (qV (fun (h' : AL2) => ∃ nb, h nb = none ∧ nb ≠ q ∧ h' = upH (upH h nb (pA 0 6 f)) q (pO 10 [IV c, .ref nb]))) none h' := fun h' h => ⟨rfl, h⟩
  generalize (qV (fun (h' : AL2) => ∃ nb, h nb = none ∧ nb ≠ q ∧ h' = upH (upH h nb (pA 0 6 f)) q (pO 10 [IV c, .ref nb]))) = QP at hQ ⊢
  refine j_aload_n (pc := 0) dX12_init_2_0 rfl ?_
  refine j_aload_n (pc := 1) dX12_init_2_1 rfl ?_
  refine j2_get fa_X12_15_X12 hr rfl dX12_init_2_2 ?_
  refine j_room (cl' := 0 + 1) (sl' := 0 + 6) (by omega) (by omega) ?_
  refine j_callI (pc := 5) (c_coInit h hke q c hq) (lw_meth q209) q76 q1019 q208 rfl md_yX12_init (by decide) (by decide) rfl (Nat.le_of_ble_eq_true rfl) dX12_init_2_5 (qV.k (fun s_5 q_5 => ?_))
  obtain ⟨nb_5, nn_5, ne_5, e_5i⟩ := q_5
  have z_1 : s_5 r = some (pO 10 [IV c, .ref rb]) := by rw [e_5i]; exact upH_d (upH_old hr nn_5) hqr
  have z_2 : s_5 rb = some (pA 0 6 f) := by rw [e_5i]; exact upH_d (upH_old hrb nn_5) (fun z => by have h9 := hrb; rw [z, hq] at h9; cases h9)
  have ne_3 : rb ≠ nb_5 := fresh_ne hrb nn_5
  have zq_5 : s_5 q = some (pO 10 [IV c, .ref nb_5]) := by rw [e_5i]; exact upH_self _ _ _
  have zn_5 : s_5 nb_5 = some (pA 0 6 (fun _ => 0)) := by rw [e_5i]; exact upH_d (upH_self _ _ _) ne_5
  refine j_iconst (pc := 8) dX12_init_2_8 rfl ?_
  refine j_istore_n (pc := 9) dX12_init_2_9 (by decide) (lo' := [some (.ref q), some (.ref r), some (IV 0)]) rfl ?_
  have hl_10 : ∀ (fu : Nat) (k : Nat) (g : AL2) (f2 : Nat → Int), 6 - k < fu → k ≤ 6 → (∀ j : Nat, j < k → f2 j = f j) → g = upH (upH h nb_5 (pA 0 6 f2)) q (pO 10 [IV c, .ref nb_5]) → J Γ A (Rep2 Γ A K) l RX12 "<init>" cX12_init_2 3 none [] 3 1 6 QP X0 0 0 g 10 [some (.ref q), some (.ref r), some (IV (k : Int))] [] := by
    intro fu
    induction fu with
    | zero => intro k g f2 hm; exact absurd hm (Nat.not_lt_zero _)
    | succ fu ih_10 =>
      intro k g f2 hm hk hf hg
      have gq : g q = some (pO 10 [IV c, .ref nb_5]) := by rw [hg]; exact upH_self _ _ _
      have gr : g r = some (pO 10 [IV c, .ref rb]) := by rw [hg]; exact upH_d (upH_old hr nn_5) hqr
      have grb : g rb = some (pA 0 6 f) := by rw [hg]; exact upH_d (upH_old hrb nn_5) (fun z => by rw [z, hq] at hrb; cases hrb)
      have gnb : g nb_5 = some (pA 0 6 f2) := by rw [hg]; exact upH_d (upH_self _ _ _) ne_5
      refine j_iload_n (pc := 10) dX12_init_2_10 rfl ?_
      refine j_bipush (pc := 11) (a := 6) dX12_init_2_11 (by decide) ?_
      refine j_icmp_ge (pc := 13) (tgt := 34) dX12_init_2_13 (by decide) (by omega) (by decide) (fun c_13 => ?_) (fun c_13 => ?_)
      · have e6 : k = 6 := by omega
        refine j2_ext (f := f2) (f9 := f) gnb (fun j hj => hf j (by omega)) (fun h8 e8 => ?_)
        refine j_vret (pc := 34) rfl (hQ _ ?_) dX12_init_2_34
        exact ⟨nb_5, nn_5, ne_5, by rw [e8, hg, upH_sw ne_5, upH_upH, upH_sw (Ne.symm ne_5)]⟩
      · refine j_aload_n (pc := 16) dX12_init_2_16 rfl ?_
        refine j2_get fa_X12_9_X12 gq rfl dX12_init_2_17 ?_
        refine j_iload_n (pc := 20) dX12_init_2_20 rfl ?_
        refine j_aload_n (pc := 21) dX12_init_2_21 rfl ?_
        refine j2_get fa_X12_9_X12 gr rfl dX12_init_2_22 ?_
        refine j_iload_n (pc := 25) dX12_init_2_25 rfl ?_
        refine j2_iald (i := (k : Int)) grb (by show 0 ≤ (k : Int) ∧ (k : Int) < ((6 : Nat) : Int); omega) dX12_init_2_26 ?_
        refine j_eqI (f k) rfl ?_
        refine j2_iast (i := (k : Int)) gnb (by show 0 ≤ (k : Int) ∧ (k : Int) < ((6 : Nat) : Int); omega) dX12_init_2_27 (fun h_27 e_27 => ?_)
        have z_4 : h_27 q = some (pO 10 [IV c, .ref nb_5]) := by rw [e_27]; exact upH_k gq gnb (by intro z; cases z)
        have z_5 : h_27 r = some (pO 10 [IV c, .ref rb]) := by rw [e_27]; exact upH_k gr gnb (by intro z; cases z)
        have z_6 : h_27 rb = some (pA 0 6 f) := by rw [e_27]; exact upH_d grb ne_3
        have z_7 : h_27 nb_5 = some (pA 0 6 (uA f2 k (f k))) := by rw [e_27]; exact upH_self _ _ _
        refine j_iinc (pc := 28) dX12_init_2_28 rfl (by decide) (lo' := [some (.ref q), some (.ref r), some (IV ((k : Int) + 1))]) rfl ?_
        refine j_goto (pc := 31) (tgt := 10) dX12_init_2_31 (by decide) ?_
        exact j_room (by omega) (by omega) (ih_10 (k + 1) h_27 (uA f2 k (f k)) (by omega) (by omega) (fun j hj => by show uA f2 k (f k) j = f j; rw [uA_ap]; split; (rename_i e; rw [e]); exact hf j (by omega)) (by rw [e_27, hg, upH_sw ne_5, upH_upH, upH_sw (Ne.symm ne_5)]; rfl))
  exact j_room (by omega) (by omega) (hl_10 _ 0 s_5 (fun _ => 0) (Nat.lt_succ_self _) (by omega) (fun j hj => absurd hj (Nat.not_lt_zero _)) e_5i)

set_option maxHeartbeats 4000000 in
theorem c_agrees {Γ : GG} {A : Nat → Prop} {K : KK} {l : Launch} (h : AL2) (q r qb rb : Nat) (c d9 : Int) (f f2 : Nat → Int) (hq : h q = some (pO 10 [IV c, .ref qb])) (hr : h r = some (pO 10 [IV d9, .ref rb])) (hqb : h qb = some (pA 0 6 f)) (hrb : h rb = some (pA 0 6 f2)) (hc : RR c) (hd : RR d9) (hf : ∀ i, RR (f i)) (hf2 : ∀ i, RR (f2 i)) : Ct Γ A (Rep2 Γ A K) l yX12_agrees (ws_ yX12_agrees cX12_agrees 4 (some .boolean)) 1 0 0 [.ref q, .ref r] h (qI (fun (r : Int) (h' : AL2) => r = agN c d9 f f2 6 ∧ h' = h)) X0 := by
  refine Ct.ofJ (own := RX12) (nm := "agrees") (lo := [some (.ref q), some (.ref r), none, none]) pn_X12 rfl rfl (List.forall_mem_cons.mpr ⟨rfl, (List.forall_mem_cons.mpr ⟨rfl, (fun _ h => nomatch h)⟩)⟩) (Nat.le_of_ble_eq_true rfl) rfl ?_
  have hQ : ∀ (r : Int) (h' : AL2), (r = agN c d9 f f2 6 ∧ h' = h) → (qI (fun (r : Int) (h' : AL2) => r = agN c d9 f f2 6 ∧ h' = h)) (some (IV r)) h' := fun r h' h => ⟨r, rfl, h⟩
  generalize (qI (fun (r : Int) (h' : AL2) => r = agN c d9 f f2 6 ∧ h' = h)) = QP at hQ ⊢
  refine j_aload_n (pc := 0) dX12_agrees_0 rfl ?_
  refine j2_get fa_X12_15_X12 hq rfl dX12_agrees_1 ?_
  refine j_aload_n (pc := 4) dX12_agrees_4 rfl ?_
  refine j2_get fa_X12_15_X12 hr rfl dX12_agrees_5 ?_
  refine j_icmp_eq (pc := 8) (tgt := 15) dX12_agrees_8 (by decide) (by omega) (by omega) (fun c_8 => ?_) (fun c_8 => ?_)
  · refine j_iconst (pc := 15) dX12_agrees_15 rfl ?_
    refine j_istore_n (pc := 16) dX12_agrees_16 (by decide) (lo' := [some (.ref q), some (.ref r), some (IV 0), none]) rfl ?_
    refine j_iconst (pc := 17) dX12_agrees_17 rfl ?_
    refine j_istore_n (pc := 18) dX12_agrees_18 (by decide) (lo' := [some (.ref q), some (.ref r), some (IV 0), some (IV 0)]) rfl ?_
    have hl_19 : ∀ (fu : Nat) (k : Nat) (z : Int), 6 - k < fu → k ≤ 6 → z = agN c d9 f f2 k → J Γ A (Rep2 Γ A K) l RX12 "agrees" cX12_agrees 4 (some .boolean) [] 1 0 0 QP X0 0 0 h 19 [some (.ref q), some (.ref r), some (IV z), some (IV (k : Int))] [] := by
      intro fu
      induction fu with
      | zero => intro k z hm; exact absurd hm (Nat.not_lt_zero _)
      | succ fu ih_19 =>
        intro k z hm hk hz
        have hr9 := agN_01 c d9 f f2 k
        rw [← hz] at hr9
        refine j_iload_n (pc := 19) dX12_agrees_19 rfl ?_
        refine j_bipush (pc := 20) (a := 6) dX12_agrees_20 (by decide) ?_
        refine j_icmp_ge (pc := 22) (tgt := 54) dX12_agrees_22 (by decide) (by omega) (by decide) (fun c_22 => ?_) (fun c_22 => ?_)
        · refine j_iload_n (pc := 54) dX12_agrees_54 rfl ?_
          refine j_zret (pc := 55) rfl (by omega) (hQ _ _ ?_) dX12_agrees_55
          exact ⟨by rw [hz, show k = 6 by omega], rfl⟩
        · have r1 := hf k
          have r2 := hf2 k
          refine j_iload_n (pc := 25) dX12_agrees_25 rfl ?_
          refine j_aload_n (pc := 26) dX12_agrees_26 rfl ?_
          refine j2_get fa_X12_9_X12 hq rfl dX12_agrees_27 ?_
          refine j_iload_n (pc := 30) dX12_agrees_30 rfl ?_
          refine j2_iald (i := (k : Int)) hqb (by show 0 ≤ (k : Int) ∧ (k : Int) < ((6 : Nat) : Int); omega) dX12_agrees_31 ?_
          refine j_eqI (f k) rfl ?_
          refine j_aload_n (pc := 32) dX12_agrees_32 rfl ?_
          refine j2_get fa_X12_9_X12 hr rfl dX12_agrees_33 ?_
          refine j_iload_n (pc := 36) dX12_agrees_36 rfl ?_
          refine j2_iald (i := (k : Int)) hrb (by show 0 ≤ (k : Int) ∧ (k : Int) < ((6 : Nat) : Int); omega) dX12_agrees_37 ?_
          refine j_eqI (f2 k) rfl ?_
          refine j_icmp_ne (pc := 38) (tgt := 45) dX12_agrees_38 (by decide) (by omega) (by omega) (fun c_38 => ?_) (fun c_38 => ?_)
          · refine j_iconst (pc := 45) dX12_agrees_45 rfl ?_
            refine j_iand (pc := 46) (r := 0) dX12_agrees_46 (and_0 (by omega)) ?_
            refine j_istore_n (pc := 47) dX12_agrees_47 (by decide) (lo' := [some (.ref q), some (.ref r), some (IV 0), some (IV (k : Int))]) rfl ?_
            refine j_iinc (pc := 48) dX12_agrees_48 rfl (by decide) (lo' := [some (.ref q), some (.ref r), some (IV 0), some (IV ((k : Int) + 1))]) rfl ?_
            refine j_goto (pc := 51) (tgt := 19) dX12_agrees_51 (by decide) ?_
            exact ih_19 (k + 1) 0 (by omega) (by omega) (by show _ = if agN c d9 f f2 k = 1 ∧ f k = f2 k then 1 else 0; rw [← hz]; split <;> omega)
          · refine j_iconst (pc := 41) dX12_agrees_41 rfl ?_
            refine j_goto (pc := 42) (tgt := 46) dX12_agrees_42 (by decide) ?_
            refine j_iand (pc := 46) (r := z) dX12_agrees_46 (and_1 (by omega)) ?_
            refine j_istore_n (pc := 47) dX12_agrees_47 (by decide) (lo' := [some (.ref q), some (.ref r), some (IV z), some (IV (k : Int))]) rfl ?_
            refine j_iinc (pc := 48) dX12_agrees_48 rfl (by decide) (lo' := [some (.ref q), some (.ref r), some (IV z), some (IV ((k : Int) + 1))]) rfl ?_
            refine j_goto (pc := 51) (tgt := 19) dX12_agrees_51 (by decide) ?_
            exact ih_19 (k + 1) z (by omega) (by omega) (by show _ = if agN c d9 f f2 k = 1 ∧ f k = f2 k then 1 else 0; rw [← hz]; split <;> omega)
    exact hl_19 _ 0 0 (Nat.lt_succ_self _) (by omega) (by unfold agN; split <;> omega)
  · refine j_iconst (pc := 11) dX12_agrees_11 rfl ?_
    refine j_goto (pc := 12) (tgt := 16) dX12_agrees_12 (by decide) ?_
    refine j_istore_n (pc := 16) dX12_agrees_16 (by decide) (lo' := [some (.ref q), some (.ref r), some (IV 1), none]) rfl ?_
    refine j_iconst (pc := 17) dX12_agrees_17 rfl ?_
    refine j_istore_n (pc := 18) dX12_agrees_18 (by decide) (lo' := [some (.ref q), some (.ref r), some (IV 1), some (IV 0)]) rfl ?_
    have hl_19 : ∀ (fu : Nat) (k : Nat) (z : Int), 6 - k < fu → k ≤ 6 → z = agN c d9 f f2 k → J Γ A (Rep2 Γ A K) l RX12 "agrees" cX12_agrees 4 (some .boolean) [] 1 0 0 QP X0 0 0 h 19 [some (.ref q), some (.ref r), some (IV z), some (IV (k : Int))] [] := by
      intro fu
      induction fu with
      | zero => intro k z hm; exact absurd hm (Nat.not_lt_zero _)
      | succ fu ih_19 =>
        intro k z hm hk hz
        have hr9 := agN_01 c d9 f f2 k
        rw [← hz] at hr9
        refine j_iload_n (pc := 19) dX12_agrees_19 rfl ?_
        refine j_bipush (pc := 20) (a := 6) dX12_agrees_20 (by decide) ?_
        refine j_icmp_ge (pc := 22) (tgt := 54) dX12_agrees_22 (by decide) (by omega) (by decide) (fun c_22_1 => ?_) (fun c_22_1 => ?_)
        · refine j_iload_n (pc := 54) dX12_agrees_54 rfl ?_
          refine j_zret (pc := 55) rfl (by omega) (hQ _ _ ?_) dX12_agrees_55
          exact ⟨by rw [hz, show k = 6 by omega], rfl⟩
        · have r1 := hf k
          have r2 := hf2 k
          refine j_iload_n (pc := 25) dX12_agrees_25 rfl ?_
          refine j_aload_n (pc := 26) dX12_agrees_26 rfl ?_
          refine j2_get fa_X12_9_X12 hq rfl dX12_agrees_27 ?_
          refine j_iload_n (pc := 30) dX12_agrees_30 rfl ?_
          refine j2_iald (i := (k : Int)) hqb (by show 0 ≤ (k : Int) ∧ (k : Int) < ((6 : Nat) : Int); omega) dX12_agrees_31 ?_
          refine j_eqI (f k) rfl ?_
          refine j_aload_n (pc := 32) dX12_agrees_32 rfl ?_
          refine j2_get fa_X12_9_X12 hr rfl dX12_agrees_33 ?_
          refine j_iload_n (pc := 36) dX12_agrees_36 rfl ?_
          refine j2_iald (i := (k : Int)) hrb (by show 0 ≤ (k : Int) ∧ (k : Int) < ((6 : Nat) : Int); omega) dX12_agrees_37 ?_
          refine j_eqI (f2 k) rfl ?_
          refine j_icmp_ne (pc := 38) (tgt := 45) dX12_agrees_38 (by decide) (by omega) (by omega) (fun c_38_1 => ?_) (fun c_38_1 => ?_)
          · refine j_iconst (pc := 45) dX12_agrees_45 rfl ?_
            refine j_iand (pc := 46) (r := 0) dX12_agrees_46 (and_0 (by omega)) ?_
            refine j_istore_n (pc := 47) dX12_agrees_47 (by decide) (lo' := [some (.ref q), some (.ref r), some (IV 0), some (IV (k : Int))]) rfl ?_
            refine j_iinc (pc := 48) dX12_agrees_48 rfl (by decide) (lo' := [some (.ref q), some (.ref r), some (IV 0), some (IV ((k : Int) + 1))]) rfl ?_
            refine j_goto (pc := 51) (tgt := 19) dX12_agrees_51 (by decide) ?_
            exact ih_19 (k + 1) 0 (by omega) (by omega) (by show _ = if agN c d9 f f2 k = 1 ∧ f k = f2 k then 1 else 0; rw [← hz]; split <;> omega)
          · refine j_iconst (pc := 41) dX12_agrees_41 rfl ?_
            refine j_goto (pc := 42) (tgt := 46) dX12_agrees_42 (by decide) ?_
            refine j_iand (pc := 46) (r := z) dX12_agrees_46 (and_1 (by omega)) ?_
            refine j_istore_n (pc := 47) dX12_agrees_47 (by decide) (lo' := [some (.ref q), some (.ref r), some (IV z), some (IV (k : Int))]) rfl ?_
            refine j_iinc (pc := 48) dX12_agrees_48 rfl (by decide) (lo' := [some (.ref q), some (.ref r), some (IV z), some (IV ((k : Int) + 1))]) rfl ?_
            refine j_goto (pc := 51) (tgt := 19) dX12_agrees_51 (by decide) ?_
            exact ih_19 (k + 1) z (by omega) (by omega) (by show _ = if agN c d9 f f2 k = 1 ∧ f k = f2 k then 1 else 0; rw [← hz]; split <;> omega)
    exact hl_19 _ 0 1 (Nat.lt_succ_self _) (by omega) (by unfold agN; split <;> omega)

theorem fn_X10_19_X12 : FN RX10 19 10 2 [IV 0, .null] := ⟨RX12, TX12, tyX12, rfl, in_X12, tyX12_ok, q205, q206, q76, fun j hj => by rcases (show j = 0 ∨ j = 1 by omega) with rfl | rfl <;> rfl⟩
theorem fa_X10_10_X10 : FA RX10 10 8 0 := ⟨RX10, TX10, 4, "BallotFoundry$Box", rfl, in_X10, by decide, q785, Or.inl rfl⟩
theorem fa_X10_30_X12 : FA RX10 30 10 1 := ⟨RX12, TX12, 2, "BallotFoundry$Count", rfl, in_X12, by decide, q214, Or.inl rfl⟩
theorem md_yJ17_intValue : MD yJ17_intValue 0 := by decide +kernel
set_option maxHeartbeats 4000000 in
theorem c_read {Γ : GG} {A : Nat → Prop} {K : KK} {l : Launch} (h : AL2) (hke : KE Γ A K) (hfe : FE Γ) (hbe : BE Γ A K) (hse : SE Γ A K) (hne : NE Γ) (bo b1 b2 : Nat) (w : Option Nat) (pe n : Int) (b : Nat → Int) (hb : ∀ i, 0 ≤ b i ∧ b i ≤ 5) (hn : 0 ≤ n ∧ n ≤ 20) (c sl : Int) (hsl : 0 ≤ sl ∧ sl ≤ 20) (hbo : h bo = some (pO 8 [.ref b1, .ref b2, va_rf w, IV pe])) (hb1 : h b1 = some (pL (rg n (fun q => bx K (b q))))) : Ct Γ A (Rep2 Γ A K) l yX10_read (ws_ yX10_read cX10_read 6 (some (.object "BallotFoundry$Count"))) 5 2 10 [.ref bo, IV c, IV sl] h (qR (fun (r : Nat) (h' : AL2) => ∃ nb, h r = none ∧ h nb = none ∧ r ≠ nb ∧ h' r = some (pO 10 [IV c, .ref nb]) ∧ h' nb = some (pA 0 6 (rdN b sl n.toNat)) ∧ ∀ a z, h a = some z → h' a = some z)) X0 := by
  refine Ct.ofJ (own := RX10) (nm := "read") (lo := [some (.ref bo), some (IV c), some (IV sl), none, none, none]) pn_X10 rfl rfl (List.forall_mem_cons.mpr ⟨rfl, (List.forall_mem_cons.mpr ⟨rfl, (List.forall_mem_cons.mpr ⟨rfl, (fun _ h => nomatch h)⟩)⟩)⟩) (Nat.le_of_ble_eq_true rfl) rfl ?_
  have hQ : ∀ (r : Nat) (h' : AL2), (∃ nb, h r = none ∧ h nb = none ∧ r ≠ nb ∧ h' r = some (pO 10 [IV c, .ref nb]) ∧ h' nb = some (pA 0 6 (rdN b sl n.toNat)) ∧ ∀ a z, h a = some z → h' a = some z) → (qR (fun (r : Nat) (h' : AL2) => ∃ nb, h r = none ∧ h nb = none ∧ r ≠ nb ∧ h' r = some (pO 10 [IV c, .ref nb]) ∧ h' nb = some (pA 0 6 (rdN b sl n.toNat)) ∧ ∀ a z, h a = some z → h' a = some z)) (some (.ref r)) h' := fun r h' h => ⟨r, rfl, h⟩
  generalize (qR (fun (r : Nat) (h' : AL2) => ∃ nb, h r = none ∧ h nb = none ∧ r ≠ nb ∧ h' r = some (pO 10 [IV c, .ref nb]) ∧ h' nb = some (pA 0 6 (rdN b sl n.toNat)) ∧ ∀ a z, h a = some z → h' a = some z)) = QP at hQ ⊢
  refine j_room (cl' := 1 + 1) (sl' := 8 + 2) (by omega) (by omega) ?_
  refine j2_new hke.1 (Or.inl (by decide)) fn_X10_19_X12 dX10_read_0 (fun a_0 h_0 n_0 e_0 => ?_)
  have z_1 : h_0 bo = some (pO 8 [.ref b1, .ref b2, va_rf w, IV pe]) := by rw [e_0]; exact upH_old hbo n_0
  have z_2 : h_0 b1 = some (pL (rg (n) (fun q => bx K (b q)))) := by rw [e_0]; exact upH_old hb1 n_0
  have z_3 : h_0 a_0 = some (pO 10 [IV 0, .null]) := by rw [e_0]; exact upH_self _ _ _
  refine j_dup (pc := 3) dX10_read_3 rfl ?_
  refine j_iload_n (pc := 4) dX10_read_4 rfl ?_
  refine j_room (cl' := 0 + 1) (sl' := 2 + 6) (by omega) (by omega) ?_
  refine j_callI (pc := 5) (c_coInit h_0 hke a_0 c z_3) (lw_meth q209) q76 q207 q208 rfl md_yX12_init (by decide) (by decide) rfl (Nat.le_of_ble_eq_true rfl) dX10_read_5 (qV.k (fun s_5 q_5 => ?_))
  obtain ⟨nb_5, nn_5, ne_5, e_5i⟩ := q_5
  have z_4 : s_5 bo = some (pO 8 [.ref b1, .ref b2, va_rf w, IV pe]) := by rw [e_5i]; exact upH_d (upH_old z_1 nn_5) (fun z => by have h9 := z_1; rw [z, z_3] at h9; cases h9)
  have z_5 : s_5 b1 = some (pL (rg (n) (fun q => bx K (b q)))) := by rw [e_5i]; exact upH_d (upH_old z_2 nn_5) (fun z => by have h9 := z_2; rw [z, z_3] at h9; cases h9)
  have zq_5 : s_5 a_0 = some (pO 10 [IV c, .ref nb_5]) := by rw [e_5i]; exact upH_self _ _ _
  have zn_5 : s_5 nb_5 = some (pA 0 6 (fun _ => 0)) := by rw [e_5i]; exact upH_d (upH_self _ _ _) ne_5
  refine j_astore_n (pc := 8) dX10_read_8 (by decide) (lo' := [some (.ref bo), some (IV c), some (IV sl), some (.ref a_0), none, none]) rfl ?_
  refine j_iconst (pc := 9) dX10_read_9 rfl ?_
  refine j_istore (pc := 10) dX10_read_10 (by decide) (lo' := [some (.ref bo), some (IV c), some (IV sl), some (.ref a_0), some (IV 0), none]) rfl ?_
  have nn0 : h nb_5 = none := by have h9 := nn_5; rw [e_0, upH_ne ne_5] at h9; exact h9
  have hl_12 : ∀ (fu : Nat) (k : Nat) (g : AL2), 20 - k < fu → (k : Int) ≤ n → g a_0 = some (pO 10 [IV c, .ref nb_5]) → g nb_5 = some (pA 0 6 (rdN b sl k)) → (∀ a z, h a = some z → g a = some z) → J Γ A (Rep2 Γ A K) l RX10 "read" cX10_read 6 (some (.object "BallotFoundry$Count")) [] 5 2 10 QP X0 0 0 g 12 [some (.ref bo), some (IV c), some (IV sl), some (.ref a_0), some (IV (k : Int)), none] [] := by
    intro fu
    induction fu with
    | zero => intro k g hm; exact absurd hm (Nat.not_lt_zero _)
    | succ fu ih_12 =>
      intro k g hm hk hq9 hn9 ho
      refine j_iload (pc := 12) dX10_read_12 rfl ?_
      refine j_aload_n (pc := 14) dX10_read_14 rfl ?_
      refine j2_get fa_X10_10_X10 (ho _ _ hbo) rfl dX10_read_15 ?_
      refine j_callF (pc := 18) (xm := ⟨"java/util/List", "size", "()I"⟩) (l2_size (ho _ _ hb1)) (lw_F q222 q159 q161 q47 q163) hfe.1 (ci := 2) rfl rfl mdx_yJ2_size (RC.ofL (ho _ _ hb1)) (by decide) (by decide) rfl (Nat.le_of_ble_eq_true rfl) dX10_read_18 (qI.k (fun r_18 s_18 q_18 => ?_))
      obtain ⟨e1q_18, e2q_18⟩ := q_18
      subst s_18
      rw [rg_len (by omega)] at e1q_18
      subst r_18
      refine j_icmp_ge (pc := 23) (tgt := 107) dX10_read_23 (by decide) (by omega) (by omega) (fun c_23 => ?_) (fun c_23 => ?_)
      · refine j_aload_n (pc := 107) dX10_read_107 rfl ?_
        refine j_aret (pc := 108) rfl (by first | exact Or.inl ⟨_, rfl⟩ | exact Or.inr ⟨_, rfl⟩) (hQ _ _ ?_) dX10_read_108
        have e9 : n.toNat = k := by omega
        exact ⟨nb_5, n_0, nn0, Ne.symm ne_5, hq9, by rw [e9]; exact hn9, ho⟩
      · have em1 := fun z : 0 < sl => Int.emod_nonneg ((k : Int) + 1) (show sl ≠ 0 by omega)
        have em2 := fun z : 0 < sl => Int.emod_lt_of_pos ((k : Int) + 1) z
        refine j_iload_n (pc := 26) dX10_read_26 rfl ?_
        refine j_if_le (pc := 27) (tgt := 43) dX10_read_27 (by decide) (by omega) (fun c_27 => ?_) (fun c_27 => ?_)
        · refine j_iconst (pc := 43) dX10_read_43 rfl ?_
          refine j_istore (pc := 44) dX10_read_44 (by decide) (lo' := [some (.ref bo), some (IV c), some (IV sl), some (.ref a_0), some (IV (k : Int)), some (IV 0)]) rfl ?_
          refine j_aload_n (pc := 46) dX10_read_46 rfl ?_
          refine j2_get fa_X10_30_X12 hq9 rfl dX10_read_47 ?_
          refine j_iload (pc := 50) dX10_read_50 rfl ?_
          refine j_if_eq (pc := 52) (tgt := 79) dX10_read_52 (by decide) (by decide) (fun c_52 => ?_) (fun c_52 => ?_)
          · refine j_aload_n (pc := 79) dX10_read_79 rfl ?_
            refine j2_get fa_X10_10_X10 (ho _ _ hbo) rfl dX10_read_80 ?_
            refine j_iload (pc := 83) dX10_read_83 rfl ?_
            refine j_callF (pc := 85) (xm := ⟨"java/util/List", "get", "(I)Ljava/lang/Object;"⟩) (l2_get (ho _ _ hb1) (i := (k : Int)) (v := bx K (b k)) (by omega) (rg_at (by omega) (by omega))) (lw_F q226 q185 q187 q47 q189) hfe.2.2.1 (ci := 2) rfl rfl mdx_yJ2_get (RC.ofL (ho _ _ hb1)) (by decide) (by decide) rfl (Nat.le_of_ble_eq_true rfl) dX10_read_85 (qR.k (fun r_85 s_85 q_85 => ?_))
            obtain ⟨e1q_85, e2q_85⟩ := q_85
            subst r_85
            subst s_85
            refine j_castO (pc := 90) (fun s H hE => (hbe.2.2.2.1 s H hE).1 ((b k) + 128).toNat (by have := hb k; omega)) hbe.2.2.2.2.1 q227 dX10_read_90 ?_
            refine j_callV (pc := 93) (k_intValue g hbe (b k) (by have := hb k; omega)) (lw_V q228 q229 q230 q72 q231) rfl md_yJ17_intValue (hbe.rc (v := (b k)) (by have := hb k; omega)) (by decide) (by decide) rfl (Nat.le_of_ble_eq_true rfl) dX10_read_93 (qI.k (fun r_93 s_93 q_93 => ?_))
            obtain ⟨e1q_93, e2q_93⟩ := q_93
            subst r_93
            subst s_93
            refine j_dup2 (pc := 96) dX10_read_96 rfl rfl ?_
            refine j2_iald (i := b k) hn9 (by show 0 ≤ b k ∧ b k < ((6 : Nat) : Int); have := hb k; omega) dX10_read_97 ?_
            refine j_iconst (pc := 98) dX10_read_98 rfl ?_
            refine j_iadd (pc := 99) dX10_read_99 ?_
            refine j2_iast (i := b k) hn9 (by show 0 ≤ b k ∧ b k < ((6 : Nat) : Int); have := hb k; omega) dX10_read_100 (fun h_100 e_100 => ?_)
            have z_6 : h_100 bo = some (pO 8 [.ref b1, .ref b2, va_rf w, IV pe]) := by rw [e_100]; exact upH_k (ho _ _ hbo) hn9 (by intro z; cases z)
            have z_7 : h_100 b1 = some (pL (rg (n) (fun q => bx K (b q)))) := by rw [e_100]; exact upH_k (ho _ _ hb1) hn9 (by intro z; cases z)
            have z_8 : h_100 a_0 = some (pO 10 [IV c, .ref nb_5]) := by rw [e_100]; exact upH_k hq9 hn9 (by intro z; cases z)
            have z_9 : h_100 nb_5 = some (pA 0 6 (uA (rdN b sl k) (b k).toNat (((rdN b sl k) (b k).toNat) + 1))) := by rw [e_100]; exact upH_self _ _ _
            refine j_iinc (pc := 101) dX10_read_101 rfl (by decide) (lo' := [some (.ref bo), some (IV c), some (IV sl), some (.ref a_0), some (IV ((k : Int) + 1)), some (IV 0)]) rfl ?_
            refine j_goto (pc := 104) (tgt := 12) dX10_read_104 (by decide) ?_
            refine j_sub (lo' := [some (.ref bo), some (IV c), some (IV sl), some (.ref a_0), some (IV ((k : Int) + 1)), none]) ⟨Or.inr rfl, Or.inr rfl, Or.inr rfl, Or.inr rfl, Or.inr rfl, Or.inl rfl, trivial⟩ ?_
            exact j_room (by omega) (by omega) (ih_12 (k + 1) h_100 (by omega) (by omega) z_8 (by rw [e_100]; refine (upH_self _ _ _).trans ?_; show some (pA 0 6 (uA (rdN b sl k) (b k).toNat (((rdN b sl k) (b k).toNat) + 1))) = some (pA 0 6 (uA (rdN b sl k) (rdI b sl k).toNat (rdN b sl k (rdI b sl k).toNat + 1))); rw [show rdI b sl k = b k from if_neg (by omega)]) (fun a z ha => by rw [e_100, upH_ne (fun e => by have h9 := ha; rw [e, nn0] at h9; cases h9)]; exact ho a z ha))
          · exact absurd c_52 (by decide)
        · refine j_iload (pc := 30) dX10_read_30 rfl ?_
          refine j_iconst (pc := 32) dX10_read_32 rfl ?_
          refine j_iadd (pc := 33) dX10_read_33 ?_
          refine j_iload_n (pc := 34) dX10_read_34 rfl ?_
          refine j_irem (pc := 35) dX10_read_35 (by omega) (by omega) ?_
          have em3 := em1 (by omega)
          have em4 := em2 (by omega)
          refine j_if_ne (pc := 36) (tgt := 43) dX10_read_36 (by decide) (by omega) (fun c_36 => ?_) (fun c_36 => ?_)
          · refine j_iconst (pc := 43) dX10_read_43 rfl ?_
            refine j_istore (pc := 44) dX10_read_44 (by decide) (lo' := [some (.ref bo), some (IV c), some (IV sl), some (.ref a_0), some (IV (k : Int)), some (IV 0)]) rfl ?_
            refine j_aload_n (pc := 46) dX10_read_46 rfl ?_
            refine j2_get fa_X10_30_X12 hq9 rfl dX10_read_47 ?_
            refine j_iload (pc := 50) dX10_read_50 rfl ?_
            refine j_if_eq (pc := 52) (tgt := 79) dX10_read_52 (by decide) (by decide) (fun c_52_1 => ?_) (fun c_52_1 => ?_)
            · refine j_aload_n (pc := 79) dX10_read_79 rfl ?_
              refine j2_get fa_X10_10_X10 (ho _ _ hbo) rfl dX10_read_80 ?_
              refine j_iload (pc := 83) dX10_read_83 rfl ?_
              refine j_callF (pc := 85) (xm := ⟨"java/util/List", "get", "(I)Ljava/lang/Object;"⟩) (l2_get (ho _ _ hb1) (i := (k : Int)) (v := bx K (b k)) (by omega) (rg_at (by omega) (by omega))) (lw_F q226 q185 q187 q47 q189) hfe.2.2.1 (ci := 2) rfl rfl mdx_yJ2_get (RC.ofL (ho _ _ hb1)) (by decide) (by decide) rfl (Nat.le_of_ble_eq_true rfl) dX10_read_85 (qR.k (fun r_85_1 s_85_1 q_85_1 => ?_))
              obtain ⟨e1q_85_1, e2q_85_1⟩ := q_85_1
              subst r_85_1
              subst s_85_1
              refine j_castO (pc := 90) (fun s H hE => (hbe.2.2.2.1 s H hE).1 ((b k) + 128).toNat (by have := hb k; omega)) hbe.2.2.2.2.1 q227 dX10_read_90 ?_
              refine j_callV (pc := 93) (k_intValue g hbe (b k) (by have := hb k; omega)) (lw_V q228 q229 q230 q72 q231) rfl md_yJ17_intValue (hbe.rc (v := (b k)) (by have := hb k; omega)) (by decide) (by decide) rfl (Nat.le_of_ble_eq_true rfl) dX10_read_93 (qI.k (fun r_93_1 s_93_1 q_93_1 => ?_))
              obtain ⟨e1q_93_1, e2q_93_1⟩ := q_93_1
              subst r_93_1
              subst s_93_1
              refine j_dup2 (pc := 96) dX10_read_96 rfl rfl ?_
              refine j2_iald (i := b k) hn9 (by show 0 ≤ b k ∧ b k < ((6 : Nat) : Int); have := hb k; omega) dX10_read_97 ?_
              refine j_iconst (pc := 98) dX10_read_98 rfl ?_
              refine j_iadd (pc := 99) dX10_read_99 ?_
              refine j2_iast (i := b k) hn9 (by show 0 ≤ b k ∧ b k < ((6 : Nat) : Int); have := hb k; omega) dX10_read_100 (fun h_100_1 e_100_1 => ?_)
              have z_10 : h_100_1 bo = some (pO 8 [.ref b1, .ref b2, va_rf w, IV pe]) := by rw [e_100_1]; exact upH_k (ho _ _ hbo) hn9 (by intro z; cases z)
              have z_11 : h_100_1 b1 = some (pL (rg (n) (fun q => bx K (b q)))) := by rw [e_100_1]; exact upH_k (ho _ _ hb1) hn9 (by intro z; cases z)
              have z_12 : h_100_1 a_0 = some (pO 10 [IV c, .ref nb_5]) := by rw [e_100_1]; exact upH_k hq9 hn9 (by intro z; cases z)
              have z_13 : h_100_1 nb_5 = some (pA 0 6 (uA (rdN b sl k) (b k).toNat (((rdN b sl k) (b k).toNat) + 1))) := by rw [e_100_1]; exact upH_self _ _ _
              refine j_iinc (pc := 101) dX10_read_101 rfl (by decide) (lo' := [some (.ref bo), some (IV c), some (IV sl), some (.ref a_0), some (IV ((k : Int) + 1)), some (IV 0)]) rfl ?_
              refine j_goto (pc := 104) (tgt := 12) dX10_read_104 (by decide) ?_
              refine j_sub (lo' := [some (.ref bo), some (IV c), some (IV sl), some (.ref a_0), some (IV ((k : Int) + 1)), none]) ⟨Or.inr rfl, Or.inr rfl, Or.inr rfl, Or.inr rfl, Or.inr rfl, Or.inl rfl, trivial⟩ ?_
              exact j_room (by omega) (by omega) (ih_12 (k + 1) h_100_1 (by omega) (by omega) z_12 (by rw [e_100_1]; refine (upH_self _ _ _).trans ?_; show some (pA 0 6 (uA (rdN b sl k) (b k).toNat (((rdN b sl k) (b k).toNat) + 1))) = some (pA 0 6 (uA (rdN b sl k) (rdI b sl k).toNat (rdN b sl k (rdI b sl k).toNat + 1))); rw [show rdI b sl k = b k from if_neg (by omega)]) (fun a z ha => by rw [e_100_1, upH_ne (fun e => by have h9 := ha; rw [e, nn0] at h9; cases h9)]; exact ho a z ha))
            · exact absurd c_52_1 (by decide)
          · refine j_iconst (pc := 39) dX10_read_39 rfl ?_
            refine j_goto (pc := 40) (tgt := 44) dX10_read_40 (by decide) ?_
            refine j_istore (pc := 44) dX10_read_44 (by decide) (lo' := [some (.ref bo), some (IV c), some (IV sl), some (.ref a_0), some (IV (k : Int)), some (IV 1)]) rfl ?_
            refine j_aload_n (pc := 46) dX10_read_46 rfl ?_
            refine j2_get fa_X10_30_X12 hq9 rfl dX10_read_47 ?_
            refine j_iload (pc := 50) dX10_read_50 rfl ?_
            refine j_if_eq (pc := 52) (tgt := 79) dX10_read_52 (by decide) (by decide) (fun c_52_1 => ?_) (fun c_52_1 => ?_)
            · exact absurd c_52_1 (by decide)
            · refine j_getsN (pc := 55) hse.1 hne.2.1 (Or.inl rfl) dX10_read_55 ?_
              refine j_aload_n (pc := 58) dX10_read_58 rfl ?_
              refine j2_get fa_X10_10_X10 (ho _ _ hbo) rfl dX10_read_59 ?_
              refine j_iload (pc := 62) dX10_read_62 rfl ?_
              refine j_callF (pc := 64) (xm := ⟨"java/util/List", "get", "(I)Ljava/lang/Object;"⟩) (l2_get (ho _ _ hb1) (i := (k : Int)) (v := bx K (b k)) (by omega) (rg_at (by omega) (by omega))) (lw_F q226 q185 q187 q47 q189) hfe.2.2.1 (ci := 2) rfl rfl mdx_yJ2_get (RC.ofL (ho _ _ hb1)) (by decide) (by decide) rfl (Nat.le_of_ble_eq_true rfl) dX10_read_64 (qR.k (fun r_64 s_64 q_64 => ?_))
              obtain ⟨e1q_64, e2q_64⟩ := q_64
              subst r_64
              subst s_64
              refine j_castO (pc := 69) (fun s H hE => (hbe.2.2.2.1 s H hE).1 ((b k) + 128).toNat (by have := hb k; omega)) hbe.2.2.2.2.1 q227 dX10_read_69 ?_
              refine j_callV (pc := 72) (k_intValue g hbe (b k) (by have := hb k; omega)) (lw_V q228 q229 q230 q72 q231) rfl md_yJ17_intValue (hbe.rc (v := (b k)) (by have := hb k; omega)) (by decide) (by decide) rfl (Nat.le_of_ble_eq_true rfl) dX10_read_72 (qI.k (fun r_72 s_72 q_72 => ?_))
              obtain ⟨e1q_72, e2q_72⟩ := q_72
              subst r_72
              subst s_72
              refine j_ialdE (pc := 75) (i := b k) hse.2 (by decide) (by have := hb k; show 0 ≤ b k ∧ b k < ((6 : Nat) : Int); omega) dX10_read_75 ?_
              refine j_eqI ((b k + 1) % 6) (by have := hb k; show (b k + 1) % 6 = (((b k).toNat : Nat) + 1 : Int) % 6; omega) ?_
              refine j_goto (pc := 76) (tgt := 96) dX10_read_76 (by decide) ?_
              refine j_dup2 (pc := 96) dX10_read_96 rfl rfl ?_
              refine j2_iald (i := (b k + 1) % 6) hn9 (by show 0 ≤ (b k + 1) % 6 ∧ (b k + 1) % 6 < ((6 : Nat) : Int); have := hb k; omega) dX10_read_97 ?_
              refine j_iconst (pc := 98) dX10_read_98 rfl ?_
              refine j_iadd (pc := 99) dX10_read_99 ?_
              refine j2_iast (i := (b k + 1) % 6) hn9 (by show 0 ≤ (b k + 1) % 6 ∧ (b k + 1) % 6 < ((6 : Nat) : Int); have := hb k; omega) dX10_read_100 (fun h_100_1 e_100_1 => ?_)
              have z_14 : h_100_1 bo = some (pO 8 [.ref b1, .ref b2, va_rf w, IV pe]) := by rw [e_100_1]; exact upH_k (ho _ _ hbo) hn9 (by intro z; cases z)
              have z_15 : h_100_1 b1 = some (pL (rg (n) (fun q => bx K (b q)))) := by rw [e_100_1]; exact upH_k (ho _ _ hb1) hn9 (by intro z; cases z)
              have z_16 : h_100_1 a_0 = some (pO 10 [IV c, .ref nb_5]) := by rw [e_100_1]; exact upH_k hq9 hn9 (by intro z; cases z)
              have z_17 : h_100_1 nb_5 = some (pA 0 6 (uA (rdN b sl k) ((b k + 1) % 6).toNat (((rdN b sl k) ((b k + 1) % 6).toNat) + 1))) := by rw [e_100_1]; exact upH_self _ _ _
              refine j_iinc (pc := 101) dX10_read_101 rfl (by decide) (lo' := [some (.ref bo), some (IV c), some (IV sl), some (.ref a_0), some (IV ((k : Int) + 1)), some (IV 1)]) rfl ?_
              refine j_goto (pc := 104) (tgt := 12) dX10_read_104 (by decide) ?_
              refine j_sub (lo' := [some (.ref bo), some (IV c), some (IV sl), some (.ref a_0), some (IV ((k : Int) + 1)), none]) ⟨Or.inr rfl, Or.inr rfl, Or.inr rfl, Or.inr rfl, Or.inr rfl, Or.inl rfl, trivial⟩ ?_
              exact j_room (by omega) (by omega) (ih_12 (k + 1) h_100_1 (by omega) (by omega) z_16 (by rw [e_100_1]; refine (upH_self _ _ _).trans ?_; show some (pA 0 6 (uA (rdN b sl k) ((b k + 1) % 6).toNat (((rdN b sl k) ((b k + 1) % 6).toNat) + 1))) = some (pA 0 6 (uA (rdN b sl k) (rdI b sl k).toNat (rdN b sl k (rdI b sl k).toNat + 1))); rw [show rdI b sl k = (b k + 1) % 6 from if_pos ⟨by omega, by omega⟩]) (fun a z ha => by rw [e_100_1, upH_ne (fun e => by have h9 := ha; rw [e, nn0] at h9; cases h9)]; exact ho a z ha))
  exact j_room (by omega) (by omega) (hl_12 _ 0 s_5 (Nat.lt_succ_self _) (by omega) zq_5 zn_5 (fun a z ha => by rw [e_5i, upH_ne (fresh_ne ha n_0)]; exact upH_old (by rw [e_0]; exact upH_old ha n_0) nn_5))

