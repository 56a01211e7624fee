set_option maxRecDepth 100000
section LW3
/-- what the component asks of its world -/
def Wd (Γ : GG) (A : Nat → Prop) (K : KK) : Prop := KE Γ A K ∧ FE Γ ∧ TH5 Γ A "java/lang/IndexOutOfBoundsException" ∧ TH5 Γ A "java/lang/IllegalArgumentException" ∧ TH5 Γ A "java/lang/IllegalStateException" ∧ BE Γ A K ∧ SE Γ A K ∧ NE Γ ∧ KO Γ RX3 ∧ KO Γ RX4 ∧ KO Γ RX5 ∧ KO Γ RX8 ∧ KO Γ RX10 ∧ KO Γ RX11 ∧ KO Γ RX12 ∧ NX Γ
section LW3a
variable {Γ : GG} {A : Nat → Prop} {l : Launch} {own nm : String} {cc : ByteArray} {nL : Nat} {ret : Option FieldType} {hh : List (Nat × Nat × Nat × Nat)} {d mc ms : Nat} {QP : Option Value → (Heap → Prop) → Prop} {XP : String → (Heap → Prop) → Prop} {cl sl : Nat} {P : Heap → Prop} {pc : Nat} {lo : List (Option Value)} {st : List Value}
theorem jp_new {idx ci N : Nat} {fs : List Value} {P' : Nat → Heap → Prop} (hF : FN own idx ci N fs) (hP : ∀ H H1 : Heap, P H → cOK Γ H1 H.size (aO ci fs) → H1.size = H.size + 1 → (∀ q : Nat, q < H.size → H1[q]? = H[q]?) → P' H.size H1) (hdg : decode cc pc = .ok (.new idx, 3)) (kk : ∀ a : Nat, J Γ A RP l own nm cc nL ret hh d mc ms QP XP cl sl (P' a) (pc + 3) lo (.ref a :: st)) : J Γ A RP l own nm cc nL ret hh d mc ms QP XP (cl + 1) (sl + N) P pc lo st := by
  intro p e s m args below meth c H locs ls k n F hR hS hl h1 h2
  refine jw_new F hF hS (by show k + 1 ≤ mc; omega) (by show n + N ≤ ms; omega) hdg fun H1 e1 z1 o1 hS1 => ?_
  exact kk H.size p e s m args below meth c H1 locs ls (k + 1) (n + N) F (hP H H1 hR e1 z1 o1) hS1 hl (by omega) (by omega)
theorem jp_newl {atype : ArrayType} {P' : Nat → Heap → Prop} (ht : newarray.typeOf atype = .long) (hq : Cond.arrayClass (newarray.typeOf atype) ∈ lw_all) (hP : ∀ H H1 : Heap, P H → cW Γ H1 H.size 0 → H1.size = H.size + 1 → (∀ q : Nat, q < H.size → H1[q]? = H[q]?) → P' H.size H1) (hdg : decode cc pc = .ok (.newarray atype, 2)) (kk : ∀ a : Nat, J Γ A RP l own nm cc nL ret hh d mc ms QP XP cl sl (P' a) (pc + 2) lo (.ref a :: st)) : J Γ A RP l own nm cc nL ret hh d mc ms QP XP (cl + 1) (sl + 1) P pc lo (IV 1 :: st) := by
  intro p e s m args below meth c H locs ls k n F hR hS hl h1 h2
  have hr : RR 1 := ⟨by omega, by omega⟩
  have hK := F.2.2.2.2.2.2.2.2.1.1
  refine va_newaK F.1 F.2.1 (F.2.2.2.2.2.2.1 _ hq) rfl hdg rfl (N := 1) ?_ ?_ ?_ (by show k + 1 ≤ mc; omega) (by show n + 1 ≤ ms; omega) rfl fun H1 cA e1 z1 o1 hAr hNm => ?_
  · rw [← iI_0, iI_lt hr ⟨by decide, by decide⟩]; omega
  · rw [iI_clamp hr]; omega
  · rw [ht]; simp only [componentBytes]; omega
  · have hv : va_S A s.heap H1 locs := ⟨Nat.le_trans hS.1 (by omega), fun x h1 h2 => (o1 x (Nat.lt_of_lt_of_le h1 hS.1)).trans (hS.2.1 x h1 h2), hS.2.2⟩
    rw [ht] at hNm e1
    have h9 : cA = Γ.2.1 4 := Option.some.inj (hNm.symm.trans (hK.2 3 _ rfl).2)
    refine kk H.size p e s m args below meth c H1 locs ls (k + 1) (n + 1) F (hP H H1 hR ⟨fun _ => 0, rfl, by decide, ?_⟩ z1 o1) hv hl (by omega) (by omega)
    rw [e1, h9]; rfl
end LW3a
variable {Γ : GG} {K : KK} {l : Launch} {N0 : Nat}
abbrev fsM : List Value := [IV 0, .null, .null, .null, .null, .null, IV 0, .null, .null, IV 0, .null, .null, .null, IV 0, IV 0, IV 0, IV 0, IV 0, .null, IV 0, .null, .null, .null, .null, .null, .null, IV 0, .null, .null, .null, .null, .null, .null, .null, .null, .null, .null, IV 0, IV 0, .null, .null, .null, IV 0, IV 0]
theorem law_i1 {o : Nat} (hW : Wd (GE Γ N0) (Af N0) K) : Ct Γ (Af N0) RP l yX1_init (ws_ yX1_init cX1_init 1 none) 6 6 160 [.ref o] (fun H => (N0 ≤ H.size ∧ N0 ≤ o) ∧ cOK Γ H o (aO 0 [.null, .null, .null, .null, .null, IV 0, .null, .null])) (fun v P => v = none ∧ P = fun H => ∃ (h : AL2) (ad : AD), Rep2 Γ (Af N0) K h H ∧ Rel K h o ad sStart ∧ N0 ≤ o ∧ o < H.size) X0 := by
  refine Ct.up (Γ := GE Γ N0) (A := Af N0) (Rep := Rep2 (GE Γ N0) (Af N0) K) (fun q h => h) fun s H hK hR => ⟨⟨hK.1, ⟨hK.2.1, hR.1.1⟩, GE.ec (fun q h => h) hK.2.2⟩, upH (fun _ => none) o (pO 0 [.null, .null, .null, .null, .null, IV 0, .null, .null]), _, _, ⟨upH (fun _ => none) o (aO 0 [.null, .null, .null, .null, .null, IV 0, .null, .null]), fun a c ha => ?_, fun a c ha => ?_⟩, c_init _ hW.1 o (upH_self _ _ _), ?_, fun E z q => q.elim⟩
  · by_cases e : a = o
    · rw [e, upH_self] at ha
      cases ha
      rw [e]
      exact ⟨hR.1.2, hR.2⟩
    · rw [upH_ne e] at ha; cases ha
  · by_cases e : a = o
    · rw [e, upH_self] at ha
      cases ha
      rw [e]
      exact ⟨upH_self _ _ _, Or.inl (by decide)⟩
    · rw [upH_ne e] at ha; cases ha
  · rintro v z ⟨e, ad, h1⟩ H1 z1 z2 z3
    exact ⟨_, ⟨e, rfl⟩, z, ad, z3, h1, hR.1.2, Nat.lt_of_lt_of_le hR.2.lt z1⟩
theorem RepM.ofH {A : Nat → Prop} {o : Nat} {ad : Nat → Nat} {σ : MM} {H : Heap} (hR : Rep1 Γ A (hM o ad σ) H) (hn : ∀ k : Nat, k < 44 → mN k ≠ 0 → ad k ≠ o) (hi : ∀ j k : Nat, j < 44 → k < 44 → mN j ≠ 0 → mN k ≠ 0 → ad j = ad k → j = k) : RepM Γ o ad σ H ∧ ∀ q, AM o ad q → A q ∧ q < H.size := by
  have h0 : hM o ad σ o = some (aO 1 (mfs ad σ.1)) := by unfold hM; rw [if_pos rfl]
  have hk9 : ∀ k : Nat, k < 44 → mN k ≠ 0 → hM o ad σ (ad k) = some (aA (mT k) (mN k) (σ.2 k)) := fun k hk nk => by
    unfold hM
    rw [if_neg (hn k hk nk)]
    have q : ∃ j : Nat, j < 44 ∧ mN j ≠ 0 ∧ ad j = ad k := ⟨k, hk, nk, rfl⟩
    rw [dif_pos q]
    obtain ⟨q1, q2, q3⟩ := Classical.choose_spec q
    rw [hi _ _ q1 hk q2 nk q3]
  refine ⟨RepM.of1 hR h0 hk9 hn hi, fun q hq => ?_⟩
  rcases hq with e | ⟨k, hk, nk, e⟩
  · rw [e]; exact ⟨(hR _ _ h0).1, (hR _ _ h0).2.lt⟩
  · rw [e]; exact ⟨(hR _ _ (hk9 k hk nk)).1, (hR _ _ (hk9 k hk nk)).2.lt⟩
/-- the component, made -/
abbrev PC (Γ : GG) (K : KK) (N0 N1 o : Nat) (H : Heap) : Prop := ∃ (h : AL2) (ad : AD), Rep2 Γ (fun q => N0 ≤ q ∧ q < N1) K h H ∧ Rel K h o ad sStart
theorem PC.kept {Γ : GG} {K : KK} {N0 N1 o : Nat} {H H1 : Heap} (h : PC Γ K N0 N1 o H) (hq : ∀ q : Nat, q < H.size → q < N1 → H1[q]? = H[q]?) : PC Γ K N0 N1 o H1 := by
  obtain ⟨h, ad, h1, h2⟩ := h
  exact ⟨h, ad, h1.kept (fun q a b => hq q a b.2), h2⟩
theorem law_i2 {N1 o : Nat} (h01 : N0 ≤ N1) : Ct Γ (Af N0) RP l yX2_init (ws_ yX2_init cX2_init 1 none) 3 30 5483 [.ref N1] (fun H => H.size = N1 + 1 ∧ PC Γ K N0 N1 o H ∧ cOK Γ H N1 (aO 1 fsM)) (fun v P => v = none ∧ P = fun H => PC Γ K N0 N1 o H ∧ ∃ adm : Nat → Nat, RepM Γ N1 adm sStart H ∧ ∀ q, AM N1 adm q → N1 ≤ q ∧ q < H.size) X0 := by
  refine Ct.up (Γ := GE Γ N1) (A := Af N1) (Rep := Rep1 (GE Γ N1) (Af N1)) (fun q h => Nat.le_trans h01 h) fun s H hK hR => ⟨⟨hK.1, ⟨hK.2.1, by rw [hR.1]; omega⟩, GE.ec (fun q h => Nat.le_trans h01 h) hK.2.2⟩, upH (fun _ => none) N1 (aO 1 fsM), _, _, fun a c ha => ?_, m_init (Γ := GE Γ N1) (A := Af N1) _ (fun s H hE q hq => Nat.le_trans hE.2 hq) N1 (upH_self _ _ _), ?_, fun E z q => q.elim⟩
  · by_cases e : a = N1
    · rw [e, upH_self] at ha
      cases ha
      rw [e]
      exact ⟨Nat.le_refl _, hR.2.2⟩
    · rw [upH_ne e] at ha; cases ha
  · rintro v z ⟨e, adm, h1, h2, h3⟩ H1 z1 z2 z3
    rw [h1] at z3
    obtain ⟨g1, g2⟩ := RepM.ofH z3 h2 h3
    exact ⟨_, ⟨e, rfl⟩, hR.2.1.kept (fun q a b => z2 q a (fun w => Nat.not_le_of_lt b w)), adm, g1, g2⟩
/-- the law's world as it is when all has been made -/
theorem PL.start {Γ : GG} {K : KK} {N0 N1 o a : Nat} {adm : Nat → Nat} {H : Heap} (ho : N0 ≤ o ∧ o < N1) (hz : H.size = a + 1) (h1 : PC Γ K N0 N1 o H) (h2 : RepM Γ N1 adm sStart H) (h3 : ∀ q, AM N1 adm q → N1 ≤ q ∧ q < a) (h4 : cW Γ H a 0) : Lie N0 N1 (a + 1) o N1 a adm ∧ PL Γ K N0 N1 (a + 1) o N1 a adm sStart sStart 0 H := by
  have h5 := h3 N1 (Or.inl rfl)
  refine ⟨⟨by omega, by omega, ho, fun q hq => by have := h3 q hq; omega, by omega, by omega⟩, by omega, ?_, h2⟩
  obtain ⟨h, ad, g1, g2⟩ := h1
  exact ⟨h, ad, ⟨g1.wide rfl rfl (fun q _ hq => Or.inl hq), h4⟩, g2⟩
end LW3
