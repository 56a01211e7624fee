set_option maxRecDepth 100000
section FR8
/-- a contract in a wider world -/
theorem Ct.up {S S' : Type} {Γ Γ' : GG} {A A' : Nat → Prop} {Rep : S → Heap → Prop} {Rep' : S' → Heap → Prop} {l : Launch} {y : MethodName} {ws : List Cond} {d mc ms : Nat} {as : List Value} {x' : S'} {QP' : Option Value → S' → Prop} {XP' : String → S' → Prop} (hA : ∀ q, A q → A' q)
    (hx : ∀ (s : State) (H : Heap), GK Γ' A' s H → Rep' x' H → GK Γ A s H ∧ ∃ (x : S) (QP : Option Value → S → Prop) (XP : String → S → Prop), Rep x H ∧ Ct Γ A Rep l y ws d mc ms as x QP XP ∧
      (∀ v z, QP v z → ∀ H1 : Heap, H.size ≤ H1.size → (∀ q : Nat, q < H.size → ¬ A q → H1[q]? = H[q]?) → Rep z H1 → ∃ z', QP' v z' ∧ Rep' z' H1) ∧ ∀ E z, XP E z → ∀ H1 : Heap, H.size ≤ H1.size → (∀ q : Nat, q < H.size → ¬ A q → H1[q]? = H[q]?) → Rep z H1 → ∃ z', XP' E z' ∧ Rep' z' H1) : Ct Γ' A' Rep' l y ws d mc ms as x' QP' XP' := by
  intro p e ha hf hc s m args below h1 h2 h3 h4
  obtain ⟨g0, x, QP, XP, q1, q2, q3, q4⟩ := hx s s.heap h3.2.1 h3.2.2
  obtain ⟨n, o, r1, r2, r3, r4⟩ := q2 p e ha hf hc s m args below h1 h2 ⟨h3.1, g0, q1⟩ h4
  refine ⟨n, o, r1, r2, r3, ?_⟩
  rcases r4 with ⟨⟨⟨v, z, g1, g2, g3⟩, g4⟩, L, g5, g6⟩ | ⟨q, g9, E, ce, L, ⟨⟨z, g2, g3⟩, g4⟩, g5, g6, g7, g8, g10, g11⟩
  · obtain ⟨z', k1, k2⟩ := q3 v z g2 _ g4.1 g4.2 g3
    exact Or.inl ⟨⟨⟨v, z', g1, k1, k2⟩, ⟨g4.1, fun q a b => g4.2 q a (fun w => b (hA q w))⟩⟩, L, g5, fun q hq => hA _ (g6 q hq)⟩
  · obtain ⟨z', k1, k2⟩ := q4 E z g2 _ g4.1 g4.2 g3
    exact Or.inr ⟨q, g9, E, ce, L, ⟨⟨z', k1, k2⟩, ⟨g4.1, fun q a b => g4.2 q a (fun w => b (hA q w))⟩⟩, g5, g6, g7, g8, g10, fun q hq => hA _ (g11 q hq)⟩
/-- the facts of the tables, in a wider world -/
theorem GK.up {Γ Γ' : GG} {A A' : Nat → Prop} {s : State} {H : Heap} (h1 : Γ.1 = Γ'.1) (h2 : Γ.2.1 = Γ'.2.1) (hE : Γ.2.2 s H) (hC : EC Γ.2.2 A) (h : GK Γ' A' s H) : GK Γ A s H := by
  obtain ⟨a, b, c⟩ := Γ
  obtain ⟨a', b', c'⟩ := Γ'
  cases h1
  cases h2
  exact ⟨h.1, hE, hC⟩
section J8P
variable {S : Type} {Γ : GG} {A : Nat → Prop} {Rep : S → Heap → Prop} {l : Launch} {own nm : String} {cc : ByteArray} {nL : Nat} {ret : Option FieldType} {hh : List (Nat × Nat × Nat × Nat)} {d mc ms : Nat} {QP : Option Value → S → Prop} {XP : String → S → Prop} {cl sl : Nat} {x : S} {pc : Nat} {lo : List (Option Value)} {st : List Value}
/-- a call whose exceptions are caught here -/
theorem j_callVc {XP' : String → S → Prop} {QP' : Option Value → S → Prop} {y : MethodName} {bytes : ByteArray} {maxL d' mc' ms' idx : Nat} {C : String} {b : Nat} {rt : Option FieldType} {As rest : List Value} (hM : Ct Γ A Rep l y (ws_ y bytes maxL rt) d' mc' ms' (.ref b :: As) x QP' XP') (hG : GoodIn lw_all (wsV own idx C y (ws_ y bytes maxL rt))) (hy : y.cls = C) (hm : MD y As.length) (hrc : RC Γ A Rep x b C) (hd : d' + 1 ≤ d) (hL : maxL ≤ 80) (hst : st = As.reverse ++ .ref b :: rest) (hrest : (rest.map fun v => v.category).sum ≤ 8) (hdg : decode cc pc = .ok (.invokevirtual idx, 3))
    (kx : ∀ (E : String) (x' : S), XP' E x' → ∃ (pre : List ExceptionTableEntry) (z : ExceptionTableEntry) (suf : List ExceptionTableEntry) (nm9 : String), tableOf hh = pre ++ z :: suf ∧ (∀ w ∈ pre, covers w pc = false ∨ (w.catchType ≠ 0 ∧ ∃ n9 : String, Cond.classLink own w.catchType n9 ∈ lw_all ∧ ∀ (s : State) (H : Heap), Γ.2.2 s H → va_Nc E n9 s)) ∧ covers z pc = true ∧ z.catchType ≠ 0 ∧ Cond.classLink own z.catchType nm9 ∈ lw_all ∧ (∀ (s : State) (H : Heap), Γ.2.2 s H → va_Nw (.castable E nm9) s) ∧ ∀ q : Nat, J Γ A Rep l own nm cc nL ret hh d mc ms QP XP cl sl x' z.handlerPc lo [.ref q])
    (kk : ∀ (v : Option Value) (x' : S), QP' v x' → J Γ A Rep l own nm cc nL ret hh d mc ms QP XP cl sl x' (pc + 3) lo (v.toList ++ rest)) : J Γ A Rep l own nm cc nL ret hh d mc ms QP XP (cl + mc') (sl + ms') x pc lo st := by
  intro p e s m args below meth c H locs ls k n F hR hS hl h1 h2
  subst hst
  have hts := F.2.2.2.2.2.2.1
  have hK := F.2.2.2.2.2.2.2.2.1
  refine jw_back (vx_runV (As := As) (rest := rest) (b := b) (C := C) ⟨F.1, F.2.1, F.2.2.1, F.2.2.2.2.2.1, hts⟩ hM (cwV As.length hts hG rfl rfl rfl ⟨hy, hm⟩ ⟨by show d' + 1 ≤ d; exact hd, by show 8 + (maxL + 11) + 100 * d' ≤ 100 * d; omega⟩) ⟨PD.blind, hrc s H (GK.at hS hK) hR, fun U hU hW => ⟨rfl, GK.warm hW (by rw [hU]; exact GK.at hS hK), by rw [hU]; exact hR⟩⟩ rfl rfl (hl.1) rfl (lv_room hrest) hdg ⟨by show k + mc' ≤ mc; omega, by show n + ms' ≤ ms; omega⟩) hS (fun q h => h) (fun v x' H1 locs1 hq hR1 z1 o1 hS1 => kk v x' hq p e s m args below meth c H1 locs1 ls (k + mc') (n + ms') F hR1 hS1 hl (by omega) (by omega)) (fun E ce q9 x' H1 locs1 hq hR1 z1 o1 hS1 g1 g2 g3 => ?_)
  obtain ⟨pre, z, suf, nm9, e1, e2, e3, e4, e5, e6, e7⟩ := kx E x' hq
  refine vx_catch F.2.2.2.2.2.1 pre z suf (F.2.2.2.2.2.2.2.2.2.trans e1) (fun w hw => ?_) e3 e4 (hts _ e5) (va_Nw.use rfl (e6 s s.heap hK.2.1)) g1 g2 g3 (e7 q9 p e s m args below meth c H1 locs1 ls (k + mc') (n + ms') F hR1 hS1 hl (by omega) (by omega))
  rcases e2 w hw with g | ⟨g, n9, g4, g5⟩
  · exact Or.inl g
  · exact Or.inr ⟨g, n9, hts _ g4, g5 s s.heap hK.2.1⟩
end J8P
/-! pictures as predicates of the heap -/
abbrev RP (P : Heap → Prop) (H : Heap) : Prop := P H
section J8Q
variable {Γ : GG} {A : Nat → Prop} {l : Launch} {own nm : String} {cc : ByteArray} {nL : Nat} {ret : Option FieldType} {hh : List (Nat × Nat × Nat × Nat)} {d mc ms : Nat} {QP : Option Value → (Heap → Prop) → Prop} {XP : String → (Heap → Prop) → Prop} {cl sl : Nat} {P : Heap → Prop} {pc : Nat} {lo : List (Option Value)} {st : List Value}
theorem jp_wk {P' : Heap → Prop} (hP : ∀ H, P H → P' H) (kk : J Γ A RP l own nm cc nL ret hh d mc ms QP XP cl sl P' pc lo st) : J Γ A RP l own nm cc nL ret hh d mc ms QP XP cl sl P pc lo st := by
  intro p e s m args below meth c H locs ls k n F hR hS hl h1 h2
  exact kk p e s m args below meth c H locs ls k n F (hP H hR) hS hl h1 h2
theorem jp_ex {α : Type} {Q : α → Heap → Prop} (kk : ∀ w : α, J Γ A RP l own nm cc nL ret hh d mc ms QP XP cl sl (Q w) pc lo st) : J Γ A RP l own nm cc nL ret hh d mc ms QP XP cl sl (fun H => ∃ w, Q w H) pc lo st := by
  intro p e s m args below meth c H locs ls k n F ⟨w, hR⟩ hS hl h1 h2
  exact kk w p e s m args below meth c H locs ls k n F hR hS hl h1 h2
theorem jp_and {φ : Prop} (kk : φ → J Γ A RP l own nm cc nL ret hh d mc ms QP XP cl sl P pc lo st) : J Γ A RP l own nm cc nL ret hh d mc ms QP XP cl sl (fun H => φ ∧ P H) pc lo st := by
  intro p e s m args below meth c H locs ls k n F ⟨w, hR⟩ hS hl h1 h2
  exact kk w p e s m args below meth c H locs ls k n F hR hS hl h1 h2
end J8Q
/-! a picture stays, when what isn't its own is written -/
theorem Rep2.kept {Γ : GG} {A : Nat → Prop} {K : KK} {h : AL2} {H H1 : Heap} (hR : Rep2 Γ A K h H) (hq : ∀ q : Nat, q < H.size → A q → H1[q]? = H[q]?) : Rep2 Γ A K h H1 := by
  obtain ⟨g, hR1, hL⟩ := hR
  exact ⟨g, fun a c ha => ⟨(hR1 a c ha).1, (hR1 a c ha).2.kept (hq a (hR1 a c ha).2.lt (hR1 a c ha).1)⟩, hL⟩
theorem Rep2.wide {Γ Γ' : GG} {A A' : Nat → Prop} {K : KK} {h : AL2} {H : Heap} (h1 : Γ.1 = Γ'.1) (h2 : Γ.2.1 = Γ'.2.1) (hA : ∀ q : Nat, q < H.size → A q → A' q) (hR : Rep2 Γ A K h H) : Rep2 Γ' A' K h H := by
  obtain ⟨a, b, c⟩ := Γ
  obtain ⟨a', b', c'⟩ := Γ'
  cases h1
  cases h2
  obtain ⟨g, hR1, hL⟩ := hR
  exact ⟨g, fun a c ha => ⟨hA a (hR1 a c ha).2.lt (hR1 a c ha).1, (hR1 a c ha).2⟩, hL⟩
end FR8
