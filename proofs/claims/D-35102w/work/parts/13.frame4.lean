/-! FRAME 4: calls, throws -/
set_option maxRecDepth 100000
section FR4
theorem nT (pc : Nat) : ∀ z ∈ tableOf [], covers z pc = false := fun z hz => nomatch hz
/-- what a contract's end says of an answer that is an int, a reference, a reference or null, none -/
def qI {S : Type} (P : Int → S → Prop) : Option Value → S → Prop := fun v x => ∃ r : Int, v = some (IV r) ∧ P r x
def qR {S : Type} (P : Nat → S → Prop) : Option Value → S → Prop := fun v x => ∃ r : Nat, v = some (.ref r) ∧ P r x
def qN {S : Type} (P : Option Nat → S → Prop) : Option Value → S → Prop := fun v x => ∃ r : Option Nat, v = some (va_rf r) ∧ P r x
def qV {S : Type} (P : S → Prop) : Option Value → S → Prop := fun v x => v = none ∧ P x
/-- the receiver is an object of the class C -/
def RC {S : Type} (Γ : GG) (A : Nat → Prop) (Rep : S → Heap → Prop) (x : S) (b : Nat) (C : String) : Prop := ∀ (s : State) (H : Heap), GK Γ A s H → Rep x H → ∃ cell : Cell, H[b]? = some cell ∧ cell.vm.isStatics = false ∧ s.vm.findClass C = some cell.cls
theorem RC.of1 {Γ : GG} {A : Nat → Prop} {h : AH} {b ci : Nat} {fs : List Value} {C : String} (hb : h b = some (aO ci fs)) (hC : vwCl[ci]?.map (fun q => q.1) = some C) : RC Γ A (Rep1 Γ A) h b C := fun s H hK hR => jw_recv hK.1 hC (hR b _ hb).2
/-- a picture that stays while the heap grows -/
def RG {S : Type} (Rep : S → Heap → Prop) : Prop := ∀ (x : S) (H H1 : Heap), Rep x H → H.size ≤ H1.size → (∀ q : Nat, q < H.size → H1[q]? = H[q]?) → Rep x H1
theorem RG.of1 {Γ : GG} {A : Nat → Prop} : RG (Rep1 Γ A) := fun h H H1 hR hz hq a c ha => ⟨(hR a c ha).1, (hR a c ha).2.kept (hq a (hR a c ha).2.lt)⟩
abbrev MD (y : MethodName) (n : Nat) : Prop := y.cls ≠ "java/lang/invoke/MethodHandle" ∧ y.cls ≠ "java/lang/invoke/VarHandle" ∧ (parseMethodDescriptor y.desc).map (fun d => d.parameters.length) = some n
section W4
variable {p : Program} {l : Launch} {e : Env} {R : Room} {s : State} {m : MethodId} {args : Array Value} {below : List Frame} {meth : Method} {c : Code} {H : Heap} {locs : List Loc} {k n : Nat} {Q : State → Prop}
variable {mc ms : Nat} {A A' : Nat → Prop} {a : Array Value} {pc : Nat} {ls : Array Slot} {st0 rest : List Value} {S : Type} {Rep : S → Heap → Prop} {QP : Option Value → S → Prop} {XP : String → S → Prop}
theorem jw_back (hr : vx_Run p l e R s m args below meth c H locs k n mc ms (F0 m pc ls st0) rest (QD Rep QP A' a) (XD Rep XP A') A') (hS : va_S A s.heap H locs) (hA : ∀ q, A' q → A q)
    (kk : ∀ (v : Option Value) (x : S) (H1 : Heap) (locs1 : List Loc), QP v x → Rep x H1 → H.size ≤ H1.size → (∀ q : Nat, q < H.size → ¬ A' q → H1[q]? = H[q]?) → va_S A s.heap H1 locs1 → W p l e R s m args below meth c H1 locs1 (k + mc) (n + ms) Q (F0 m (pc + 3) ls (v.toList ++ rest)))
    (kx : ∀ (E : String) (ce : Cell) (q9 : Addr) (x : S) (H1 : Heap) (locs1 : List Loc), XP E x → Rep x H1 → H.size ≤ H1.size → (∀ q : Nat, q < H.size → ¬ A' q → H1[q]? = H[q]?) → va_S A s.heap H1 locs1 → H1[q9]? = some ce → ce.vm = .none → s.vm.findClass E = some ce.cls → vx_W p l e R s m args below meth c H1 locs1 (k + mc) (n + ms) Q (F0 m pc ls rest) q9) : W p l e R s m args below meth c H locs k n Q (F0 m pc ls st0) := by
  intro T hT X
  rcases hr T hT X with ⟨v, st₀, t, T', L, h0, X', hL, e1, e2, ⟨⟨v', x, hv, hq, hRx⟩, hF⟩, st⟩ | ⟨q, st₀, t, T', L, E, ce, h0, X', hL, e1, e2, ⟨⟨x, hq, hRx⟩, hF⟩, hce, hcv, hcl, st⟩
  · cases hv
    obtain ⟨k1, k2, k3⟩ := vx_keep h0 e1 hS (fun q _ z => hA q z) hA hL hF
    obtain ⟨t2, a1, b1⟩ := kk v x T'.heap (locs ++ L) hq (by rw [e1]; exact hRx) k1 k2 k3 T' rfl X'
    exact ⟨t2, st t2 a1, b1⟩
  · obtain ⟨k1, k2, k3⟩ := vx_keep h0 e1 hS (fun q _ z => hA q z) hA hL hF
    obtain ⟨t2, a1, b1⟩ := kx E ce q x T'.heap (locs ++ L) hq (by rw [e1]; exact hRx) k1 k2 k3 (by rw [e1]; exact hce) hcv hcl T' rfl X'
    exact ⟨t2, st.trans a1, b1⟩
theorem jw_back5 (hr : vx_Run5 p l e R s m args below meth c H locs k n mc ms (F0 m pc ls st0) rest (QD Rep QP A' a) (XD Rep XP A') A') (hS : va_S A s.heap H locs) (hA : ∀ q, A' q → A q)
    (kk : ∀ (v : Option Value) (x : S) (H1 : Heap) (locs1 : List Loc), QP v x → Rep x H1 → H.size ≤ H1.size → (∀ q : Nat, q < H.size → ¬ A' q → H1[q]? = H[q]?) → va_S A s.heap H1 locs1 → W p l e R s m args below meth c H1 locs1 (k + mc) (n + ms) Q (F0 m (pc + 5) ls (v.toList ++ rest)))
    (kx : ∀ (E : String) (ce : Cell) (q9 : Addr) (x : S) (H1 : Heap) (locs1 : List Loc), XP E x → Rep x H1 → H.size ≤ H1.size → (∀ q : Nat, q < H.size → ¬ A' q → H1[q]? = H[q]?) → va_S A s.heap H1 locs1 → H1[q9]? = some ce → ce.vm = .none → s.vm.findClass E = some ce.cls → vx_W p l e R s m args below meth c H1 locs1 (k + mc) (n + ms) Q (F0 m pc ls rest) q9) : W p l e R s m args below meth c H locs k n Q (F0 m pc ls st0) := by
  intro T hT X
  rcases hr T hT X with ⟨v, st₀, t, T', L, h0, X', hL, e1, e2, ⟨⟨v', x, hv, hq, hRx⟩, hF⟩, st⟩ | ⟨q, st₀, t, T', L, E, ce, h0, X', hL, e1, e2, ⟨⟨x, hq, hRx⟩, hF⟩, hce, hcv, hcl, st⟩
  · cases hv
    obtain ⟨k1, k2, k3⟩ := vx_keep h0 e1 hS (fun q _ z => hA q z) hA hL hF
    obtain ⟨t2, a1, b1⟩ := kk v x T'.heap (locs ++ L) hq (by rw [e1]; exact hRx) k1 k2 k3 T' rfl X'
    exact ⟨t2, st t2 a1, b1⟩
  · obtain ⟨k1, k2, k3⟩ := vx_keep h0 e1 hS (fun q _ z => hA q z) hA hL hF
    obtain ⟨t2, a1, b1⟩ := kx E ce q x T'.heap (locs ++ L) hq (by rw [e1]; exact hRx) k1 k2 k3 (by rw [e1]; exact hce) hcv hcl T' rfl X'
    exact ⟨t2, st.trans a1, b1⟩
end W4
section J4
variable {S : Type} {Γ : GG} {A : Nat → Prop} {Rep : S → Heap → Prop} {l : Launch} {own nm : String} {cc : ByteArray} {nL : Nat} {ret : Option FieldType} {hh : List (Nat × Nat × Nat × Nat)} {d mc ms : Nat} {QP : Option Value → S → Prop} {XP : String → S → Prop} {cl sl : Nat} {x : S} {pc : Nat} {lo : List (Option Value)} {st : List Value}
theorem qI.k {P : Int → S → Prop} {rest : List Value} {pc' : Nat} (k : ∀ (r : Int) (x' : S), P r x' → J Γ A Rep l own nm cc nL ret hh d mc ms QP XP cl sl x' pc' lo (IV r :: rest)) : ∀ (v : Option Value) (x' : S), qI P v x' → J Γ A Rep l own nm cc nL ret hh d mc ms QP XP cl sl x' pc' lo (v.toList ++ rest) := by
  rintro v x' ⟨r, rfl, h⟩; exact k r x' h
theorem qR.k {P : Nat → S → Prop} {rest : List Value} {pc' : Nat} (k : ∀ (r : Nat) (x' : S), P r x' → J Γ A Rep l own nm cc nL ret hh d mc ms QP XP cl sl x' pc' lo (.ref r :: rest)) : ∀ (v : Option Value) (x' : S), qR P v x' → J Γ A Rep l own nm cc nL ret hh d mc ms QP XP cl sl x' pc' lo (v.toList ++ rest) := by
  rintro v x' ⟨r, rfl, h⟩; exact k r x' h
theorem qN.k {P : Option Nat → S → Prop} {rest : List Value} {pc' : Nat} (k : ∀ (r : Option Nat) (x' : S), P r x' → J Γ A Rep l own nm cc nL ret hh d mc ms QP XP cl sl x' pc' lo (va_rf r :: rest)) : ∀ (v : Option Value) (x' : S), qN P v x' → J Γ A Rep l own nm cc nL ret hh d mc ms QP XP cl sl x' pc' lo (v.toList ++ rest) := by
  rintro v x' ⟨r, rfl, h⟩; exact k r x' h
theorem qV.k {P : S → Prop} {rest : List Value} {pc' : Nat} (k : ∀ x' : S, P x' → J Γ A Rep l own nm cc nL ret hh d mc ms QP XP cl sl x' pc' lo rest) : ∀ (v : Option Value) (x' : S), qV P v x' → J Γ A Rep l own nm cc nL ret hh d mc ms QP XP cl sl x' pc' lo (v.toList ++ rest) := by
  rintro v x' ⟨rfl, h⟩; exact k x' h
/-- an exception goes on to the caller -/
theorem j_out {p : Program} {e : Env} {s : State} {m : MethodId} {args : Array Value} {below : List Frame} {meth : Method} {c : Code} {H1 : Heap} {locs1 : List Loc} {ls : Array Slot} {k n : Nat} {E : String} {ce : Cell} {q9 : Addr} {rest : List Value} (F : JF Γ A own nm cc nL ret hh p s m args meth c) (hT : ∀ z ∈ tableOf hh, covers z pc = false) (hx : XP E x) (hR : Rep x H1) (hS : va_S A s.heap H1 locs1) (h1 : H1[q9]? = some ce) (h2 : ce.vm = .none) (h3 : s.vm.findClass E = some ce.cls) (hk : k ≤ mc) (hn : n ≤ ms) :
    vx_W p l e (rmOf d mc ms) s m args below meth c H1 locs1 k n (vx_MQ below (QD Rep QP A) (XD Rep XP A) args s mc ms A) (F0 m pc ls rest) q9 :=
  vx_out (fun z hz => hT z (by rw [← F.2.2.2.2.2.2.2.2.2]; exact hz)) F.2.2.2.2.1 h1 h2 h3 (fun t ht _ => ⟨⟨x, hx, by rw [ht]; exact hR⟩, hS.F ht⟩) hS.2.2 hk hn
theorem j_callV {QP' : Option Value → S → Prop} {y : MethodName} {bytes : ByteArray} {maxL d' mc' ms' idx : Nat} {C : String} {b : Nat} {rt : Option FieldType} {As rest : List Value} (hM : Ct Γ A Rep l y (ws_ y bytes maxL rt) d' mc' ms' (.ref b :: As) x QP' X0) (hG : GoodIn lw_all (wsV own idx C y (ws_ y bytes maxL rt))) (hy : y.cls = C) (hm : MD y As.length) (hrc : RC Γ A Rep x b C) (hd : d' + 1 ≤ d) (hL : maxL ≤ 80) (hst : st = As.reverse ++ .ref b :: rest) (hrest : (rest.map fun v => v.category).sum ≤ 8) (hdg : decode cc pc = .ok (.invokevirtual idx, 3))
    (kk : ∀ (v : Option Value) (x' : S), QP' v x' → J Γ A Rep l own nm cc nL ret hh d mc ms QP XP cl sl x' (pc + 3) lo (v.toList ++ rest)) : J Γ A Rep l own nm cc nL ret hh d mc ms QP XP (cl + mc') (sl + ms') x pc lo st := by
  intro p e s m args below meth c H locs ls k n F hR hS hl h1 h2
  subst hst
  have hts := F.2.2.2.2.2.2.1
  have hK := F.2.2.2.2.2.2.2.2.1
  refine jw_back (vx_runV (As := As) (rest := rest) (b := b) (C := C) ⟨F.1, F.2.1, F.2.2.1, F.2.2.2.2.2.1, hts⟩ hM (cwV As.length hts hG rfl rfl rfl ⟨hy, hm⟩ ⟨by show d' + 1 ≤ d; exact hd, by show 8 + (maxL + 11) + 100 * d' ≤ 100 * d; omega⟩) ⟨PD.blind, hrc s H (GK.at hS hK) hR, fun U hU hW => ⟨rfl, GK.warm hW (by rw [hU]; exact GK.at hS hK), by rw [hU]; exact hR⟩⟩ rfl rfl (hl.1) rfl (lv_room hrest) hdg ⟨by show k + mc' ≤ mc; omega, by show n + ms' ≤ ms; omega⟩) hS (fun q h => h) (fun v x' H1 locs1 hq hR1 z1 o1 hS1 => kk v x' hq p e s m args below meth c H1 locs1 ls (k + mc') (n + ms') F hR1 hS1 hl (by omega) (by omega)) (fun E ce q9 x' H1 locs1 hq => hq.elim)
theorem j_callS {QP' : Option Value → S → Prop} {y : MethodName} {bytes : ByteArray} {maxL d' mc' ms' idx : Nat} {rt : Option FieldType} {As rest : List Value} (hM : Ct Γ A Rep l y (ws_ y bytes maxL rt) d' mc' ms' As x QP' X0) (hG : GoodIn lw_all (va_wsS own idx y (ws_ y bytes maxL rt))) (hm : MD y As.length) (hd : d' + 1 ≤ d) (hL : maxL ≤ 80) (hst : st = As.reverse ++ rest) (hrest : (rest.map fun v => v.category).sum ≤ 8) (hdg : decode cc pc = .ok (.invokestatic idx, 3))
    (kk : ∀ (v : Option Value) (x' : S), QP' v x' → J Γ A Rep l own nm cc nL ret hh d mc ms QP XP cl sl x' (pc + 3) lo (v.toList ++ rest)) : J Γ A Rep l own nm cc nL ret hh d mc ms QP XP (cl + mc') (sl + ms') x pc lo st := by
  intro p e s m args below meth c H locs ls k n F hR hS hl h1 h2
  subst hst
  have hts := F.2.2.2.2.2.2.1
  have hK := F.2.2.2.2.2.2.2.2.1
  refine jw_back (vx_runS (As := As) (rest := rest) ⟨F.1, F.2.1, F.2.2.1, F.2.2.2.2.2.1, hts⟩ hM (va_cwS As.length hts hG rfl rfl rfl hm ⟨by show d' + 1 ≤ d; exact hd, by show 8 + (maxL + 11) + 100 * d' ≤ 100 * d; omega⟩) ⟨PD.blind, fun U hU hW => ⟨rfl, GK.warm hW (by rw [hU]; exact GK.at hS hK), by rw [hU]; exact hR⟩⟩ rfl rfl (hl.1) rfl (lv_room hrest) hdg ⟨by show k + mc' ≤ mc; omega, by show n + ms' ≤ ms; omega⟩) hS (fun q h => h) (fun v x' H1 locs1 hq hR1 z1 o1 hS1 => kk v x' hq p e s m args below meth c H1 locs1 ls (k + mc') (n + ms') F hR1 hS1 hl (by omega) (by omega)) (fun E ce q9 x' H1 locs1 hq => hq.elim)
theorem j_callI {QP' : Option Value → S → Prop} {y : MethodName} {bytes : ByteArray} {maxL d' mc' ms' idx : Nat} {b : Nat} {As rest : List Value} (hM : Ct Γ A Rep l y (ws_ y bytes maxL none) d' mc' ms' (.ref b :: As) x QP' X0) (hG : GoodIn lw_all (ws_ y bytes maxL none)) (q1 : Cond.initialized y.cls ∈ lw_all) (q2 : Cond.methodLink own idx y ∈ lw_all) (q3 : Cond.instanceMethod y ∈ lw_all) (hy1 : y.name = "<init>") (hm : MD y As.length) (hd : d' + 1 ≤ d) (hL : maxL ≤ 80) (hst : st = As.reverse ++ .ref b :: rest) (hrest : (rest.map fun v => v.category).sum ≤ 8) (hdg : decode cc pc = .ok (.invokespecial idx, 3))
    (kk : ∀ (v : Option Value) (x' : S), QP' v x' → J Γ A Rep l own nm cc nL ret hh d mc ms QP XP cl sl x' (pc + 3) lo (v.toList ++ rest)) : J Γ A Rep l own nm cc nL ret hh d mc ms QP XP (cl + mc') (sl + ms') x pc lo st := by
  intro p e s m args below meth c H locs ls k n F hR hS hl h1 h2
  subst hst
  have hts := F.2.2.2.2.2.2.1
  have hK := F.2.2.2.2.2.2.2.2.1
  refine jw_back (vx_runI (As := As) (rest := rest) (b := b) ⟨F.1, F.2.1, F.2.2.1, F.2.2.2.2.2.1, hts⟩ hM (cwI As.length hts hG rfl rfl rfl (hts _ q1) (hts _ q2) (hts _ q3) hy1 hm ⟨by show d' + 1 ≤ d; exact hd, by show 8 + (maxL + 11) + 100 * d' ≤ 100 * d; omega⟩) ⟨PD.blind, fun U hU hW => ⟨rfl, GK.warm hW (by rw [hU]; exact GK.at hS hK), by rw [hU]; exact hR⟩⟩ rfl rfl (hl.1) rfl (lv_room hrest) hdg ⟨by show k + mc' ≤ mc; omega, by show n + ms' ≤ ms; omega⟩) hS (fun q h => h) (fun v x' H1 locs1 hq hR1 z1 o1 hS1 => kk v x' hq p e s m args below meth c H1 locs1 ls (k + mc') (n + ms') F hR1 hS1 hl (by omega) (by omega)) (fun E ce q9 x' H1 locs1 hq => hq.elim)
theorem j_callVx {XP' : String → S → Prop} {QP' : Option Value → S → Prop} {y : MethodName} {bytes : ByteArray} {maxL d' mc' ms' idx : Nat} {C : String} {b : Nat} {rt : Option FieldType} {As rest : List Value} (hM : Ct Γ A Rep l y (ws_ y bytes maxL rt) d' mc' ms' (.ref b :: As) x QP' XP') (hG : GoodIn lw_all (wsV own idx C y (ws_ y bytes maxL rt))) (hy : y.cls = C) (hm : MD y As.length) (hrc : RC Γ A Rep x b C) (hT : ∀ z ∈ tableOf hh, covers z pc = false) (hx : ∀ (E : String) (x' : S), XP' E x' → XP E x') (hd : d' + 1 ≤ d) (hL : maxL ≤ 80) (hst : st = As.reverse ++ .ref b :: rest) (hrest : (rest.map fun v => v.category).sum ≤ 8) (hdg : decode cc pc = .ok (.invokevirtual idx, 3))
    (kk : ∀ (v : Option Value) (x' : S), QP' v x' → J Γ A Rep l own nm cc nL ret hh d mc ms QP XP cl sl x' (pc + 3) lo (v.toList ++ rest)) : J Γ A Rep l own nm cc nL ret hh d mc ms QP XP (cl + mc') (sl + ms') x pc lo st := by
  intro p e s m args below meth c H locs ls k n F hR hS hl h1 h2
  subst hst
  have hts := F.2.2.2.2.2.2.1
  have hK := F.2.2.2.2.2.2.2.2.1
  refine jw_back (vx_runV (As := As) (rest := rest) (b := b) (C := C) ⟨F.1, F.2.1, F.2.2.1, F.2.2.2.2.2.1, hts⟩ hM (cwV As.length hts hG rfl rfl rfl ⟨hy, hm⟩ ⟨by show d' + 1 ≤ d; exact hd, by show 8 + (maxL + 11) + 100 * d' ≤ 100 * d; omega⟩) ⟨PD.blind, hrc s H (GK.at hS hK) hR, fun U hU hW => ⟨rfl, GK.warm hW (by rw [hU]; exact GK.at hS hK), by rw [hU]; exact hR⟩⟩ rfl rfl (hl.1) rfl (lv_room hrest) hdg ⟨by show k + mc' ≤ mc; omega, by show n + ms' ≤ ms; omega⟩) hS (fun q h => h) (fun v x' H1 locs1 hq hR1 z1 o1 hS1 => kk v x' hq p e s m args below meth c H1 locs1 ls (k + mc') (n + ms') F hR1 hS1 hl (by omega) (by omega)) (fun E ce q9 x' H1 locs1 hq hR1 z1 o1 hS1 g1 g2 g3 => j_out F hT (hx E x' hq) hR1 hS1 g1 g2 g3 (by omega) (by omega))
theorem j_callSx {XP' : String → S → Prop} {QP' : Option Value → S → Prop} {y : MethodName} {bytes : ByteArray} {maxL d' mc' ms' idx : Nat} {rt : Option FieldType} {As rest : List Value} (hM : Ct Γ A Rep l y (ws_ y bytes maxL rt) d' mc' ms' As x QP' XP') (hG : GoodIn lw_all (va_wsS own idx y (ws_ y bytes maxL rt))) (hm : MD y As.length) (hT : ∀ z ∈ tableOf hh, covers z pc = false) (hx : ∀ (E : String) (x' : S), XP' E x' → XP E x') (hd : d' + 1 ≤ d) (hL : maxL ≤ 80) (hst : st = As.reverse ++ rest) (hrest : (rest.map fun v => v.category).sum ≤ 8) (hdg : decode cc pc = .ok (.invokestatic idx, 3))
    (kk : ∀ (v : Option Value) (x' : S), QP' v x' → J Γ A Rep l own nm cc nL ret hh d mc ms QP XP cl sl x' (pc + 3) lo (v.toList ++ rest)) : J Γ A Rep l own nm cc nL ret hh d mc ms QP XP (cl + mc') (sl + ms') x pc lo st := by
  intro p e s m args below meth c H locs ls k n F hR hS hl h1 h2
  subst hst
  have hts := F.2.2.2.2.2.2.1
  have hK := F.2.2.2.2.2.2.2.2.1
  refine jw_back (vx_runS (As := As) (rest := rest) ⟨F.1, F.2.1, F.2.2.1, F.2.2.2.2.2.1, hts⟩ hM (va_cwS As.length hts hG rfl rfl rfl hm ⟨by show d' + 1 ≤ d; exact hd, by show 8 + (maxL + 11) + 100 * d' ≤ 100 * d; omega⟩) ⟨PD.blind, fun U hU hW => ⟨rfl, GK.warm hW (by rw [hU]; exact GK.at hS hK), by rw [hU]; exact hR⟩⟩ rfl rfl (hl.1) rfl (lv_room hrest) hdg ⟨by show k + mc' ≤ mc; omega, by show n + ms' ≤ ms; omega⟩) hS (fun q h => h) (fun v x' H1 locs1 hq hR1 z1 o1 hS1 => kk v x' hq p e s m args below meth c H1 locs1 ls (k + mc') (n + ms') F hR1 hS1 hl (by omega) (by omega)) (fun E ce q9 x' H1 locs1 hq hR1 z1 o1 hS1 g1 g2 g3 => j_out F hT (hx E x' hq) hR1 hS1 g1 g2 g3 (by omega) (by omega))
theorem j_callIx {XP' : String → S → Prop} {QP' : Option Value → S → Prop} {y : MethodName} {bytes : ByteArray} {maxL d' mc' ms' idx : Nat} {b : Nat} {As rest : List Value} (hM : Ct Γ A Rep l y (ws_ y bytes maxL none) d' mc' ms' (.ref b :: As) x QP' XP') (hG : GoodIn lw_all (ws_ y bytes maxL none)) (q1 : Cond.initialized y.cls ∈ lw_all) (q2 : Cond.methodLink own idx y ∈ lw_all) (q3 : Cond.instanceMethod y ∈ lw_all) (hy1 : y.name = "<init>") (hm : MD y As.length) (hT : ∀ z ∈ tableOf hh, covers z pc = false) (hx : ∀ (E : String) (x' : S), XP' E x' → XP E x') (hd : d' + 1 ≤ d) (hL : maxL ≤ 80) (hst : st = As.reverse ++ .ref b :: rest) (hrest : (rest.map fun v => v.category).sum ≤ 8) (hdg : decode cc pc = .ok (.invokespecial idx, 3))
    (kk : ∀ (v : Option Value) (x' : S), QP' v x' → J Γ A Rep l own nm cc nL ret hh d mc ms QP XP cl sl x' (pc + 3) lo (v.toList ++ rest)) : J Γ A Rep l own nm cc nL ret hh d mc ms QP XP (cl + mc') (sl + ms') x pc lo st := by
  intro p e s m args below meth c H locs ls k n F hR hS hl h1 h2
  subst hst
  have hts := F.2.2.2.2.2.2.1
  have hK := F.2.2.2.2.2.2.2.2.1
  refine jw_back (vx_runI (As := As) (rest := rest) (b := b) ⟨F.1, F.2.1, F.2.2.1, F.2.2.2.2.2.1, hts⟩ hM (cwI As.length hts hG rfl rfl rfl (hts _ q1) (hts _ q2) (hts _ q3) hy1 hm ⟨by show d' + 1 ≤ d; exact hd, by show 8 + (maxL + 11) + 100 * d' ≤ 100 * d; omega⟩) ⟨PD.blind, fun U hU hW => ⟨rfl, GK.warm hW (by rw [hU]; exact GK.at hS hK), by rw [hU]; exact hR⟩⟩ rfl rfl (hl.1) rfl (lv_room hrest) hdg ⟨by show k + mc' ≤ mc; omega, by show n + ms' ≤ ms; omega⟩) hS (fun q h => h) (fun v x' H1 locs1 hq hR1 z1 o1 hS1 => kk v x' hq p e s m args below meth c H1 locs1 ls (k + mc') (n + ms') F hR1 hS1 hl (by omega) (by omega)) (fun E ce q9 x' H1 locs1 hq hR1 z1 o1 hS1 g1 g2 g3 => j_out F hT (hx E x' hq) hR1 hS1 g1 g2 g3 (by omega) (by omega))
theorem j_callF {QP' : Option Value → S → Prop} {y : MethodName} {bytes : ByteArray} {maxL d' mc' ms' idx : Nat} {xm : MethodName} {C : String} {b ci cnt : Nat} {q0 : vw_C} {rt : Option FieldType} {As rest : List Value} (hM : Ct Γ A Rep l y (ws_ y bytes maxL rt) d' mc' ms' (.ref b :: As) x QP' X0) (hG : GoodIn lw_all (va_wsF own idx C xm y (ws_ y bytes maxL rt))) (hfw : ∀ (s : State) (H : Heap), Γ.2.2 s H → va_Fw C xm y s) (hcl : vwCl[ci]? = some q0) (hC : q0.1 = C) (hm : MD xm As.length) (hrc : RC Γ A Rep x b C) (hd : d' + 1 ≤ d) (hL : maxL ≤ 80) (hst : st = As.reverse ++ .ref b :: rest) (hrest : (rest.map fun v => v.category).sum ≤ 8) (hdg : decode cc pc = .ok (.invokeinterface idx cnt, 5))
    (kk : ∀ (v : Option Value) (x' : S), QP' v x' → J Γ A Rep l own nm cc nL ret hh d mc ms QP XP cl sl x' (pc + 5) lo (v.toList ++ rest)) : J Γ A Rep l own nm cc nL ret hh d mc ms QP XP (cl + mc') (sl + ms') x pc lo st := by
  intro p e s m args below meth c H locs ls k n F hR hS hl h1 h2
  subst hst
  have hts := F.2.2.2.2.2.2.1
  have hK := F.2.2.2.2.2.2.2.2.1
  refine jw_back5 (vx_runF (As := As) (rest := rest) (b := b) (C := C) (hC ▸ (hK.1.1 ci _ hcl).2) ⟨F.1, F.2.1, F.2.2.1, F.2.2.2.2.2.1, hts⟩ hM (va_cwF As.length hts hG rfl rfl rfl (hfw s s.heap hK.2.1) hm ⟨by show d' + 1 ≤ d; exact hd, by show 8 + (maxL + 11) + 100 * d' ≤ 100 * d; omega⟩) ⟨PD.blind, hrc s H (GK.at hS hK) hR, fun U hU hW => ⟨rfl, GK.warm hW (by rw [hU]; exact GK.at hS hK), by rw [hU]; exact hR⟩⟩ rfl rfl (hl.1) rfl (lv_room hrest) hdg ⟨by show k + mc' ≤ mc; omega, by show n + ms' ≤ ms; omega⟩) hS (fun q h => h) (fun v x' H1 locs1 hq hR1 z1 o1 hS1 => kk v x' hq p e s m args below meth c H1 locs1 ls (k + mc') (n + ms') F hR1 hS1 hl (by omega) (by omega)) (fun E ce q9 x' H1 locs1 hq => hq.elim)
theorem j_objInit {a idx : Nat} (q1 : Cond.methodLink own idx objectInit ∈ lw_all) (q2 : Cond.instanceMethod objectInit ∈ lw_all) (q3 : Cond.code objectInit ⟨#[0xb1]⟩ 1 none ∈ lw_all) (hd : 1 ≤ d) (hrest : (st.map fun v => v.category).sum ≤ 8) (hdg : decode cc pc = .ok (.invokespecial idx, 3)) (kk : J Γ A Rep l own nm cc nL ret hh d mc ms QP XP cl sl x (pc + 3) lo st) : J Γ A Rep l own nm cc nL ret hh d mc ms QP XP cl sl x pc lo (.ref a :: st) := by
  intro p e s m args below meth c H locs ls k n F hR hS hl h1 h2
  have hts := F.2.2.2.2.2.2.1
  have hr9 := lv_room (m := m) (pc := pc) (ls := ls) (rest := .ref a :: st) hrest
  refine W.objInit F.1 F.2.1 F.2.2.2.2.2.1 (hts _ q1) (hts _ q2) (hts _ q3) rfl (by rw [F.2.2.1]; exact hl.1) rfl hdg (by show 1 ≤ d; exact hd) (by show _ ≤ 100 * d; omega) ?_
  exact kk p e s m args below meth c H locs ls k n F hR hS hl h1 h2
/-- what a throw of cls asks of the tables beyond the good words -/
def TH (Γ : GG) (A : Nat → Prop) (cls : String) : Prop := ∀ (s : State) (H : Heap), Γ.2.2 s H → va_Nw (.castable cls cls) s ∧ vx_Zq Bundle.tN "UNASSIGNED_STACK" Bundle.steD A s H ∧ vx_Zq Bundle.tN "SUPPRESSED_SENTINEL" Bundle.listD A s H
/-- 'throw new E()' -/
theorem j_throw0 {cls : String} {names : List String} {ik ic : Nat} (hfl : l.stackTraces = false) (hrg : RG Rep) (hth : TH Γ A cls) (hcls : Bundle.fit cls = true) (hnames : ∀ n ∈ names, Bundle.fit n = true)
    (hk : Cond.classLink own ik cls ∈ lw_all) (hini : Cond.initialized cls ∈ lw_all) (hat : ∀ w ∈ (vx_at0 own ic cls names).filter goodWord, w ∈ lw_all) (hng : ∀ w ∈ (vx_at0 own ic cls names).filter (fun w => !goodWord w), w ∈ [Cond.castable cls cls])
    (hgood : ∀ w ∈ Cond.classLink own ik cls :: Cond.initialized cls :: vx_at0 own ic cls names, vx_ot w = true) (hT : ∀ z ∈ tableOf hh, covers z (pc + 7) = false) (hd : names.length + 3 < d) (hlo : (st.map fun v => v.category).sum + (13 * (names.length + 1) + 42) ≤ 100 * d)
    (d0 : decode cc pc = .ok (.new ik, 3)) (d3 : decode cc (pc + 3) = .ok (.dup, 1)) (d4 : decode cc (pc + 4) = .ok (.invokespecial ic, 3)) (d7 : decode cc (pc + 7) = .ok (.athrow, 1)) (hx : XP cls x) : J Γ A Rep l own nm cc nL ret hh d mc ms QP XP (cl + 1) (sl + 6) x pc lo st := by
  intro p e s m args below meth c H locs ls k n F hR hS hl h1 h2
  have hts := F.2.2.2.2.2.2.1
  have hK := F.2.2.2.2.2.2.2.2.1
  obtain ⟨t1, t2, t3⟩ := hth s s.heap hK.2.1
  refine vx_throw0 F.1 F.2.1 hfl F.2.2.2.2.2.1 hcls hnames (hts _ hk) (hts _ hini) (vx_hat (B := [Cond.castable cls cls]) (fun w hw => hts w (hat w hw)) hng (vx_c (va_Nw.use rfl t1) vx_n)) hgood t2 t3 hS (hl.1.trans F.2.2.1.symm) d0 d3 d4 d7 (fun z hz => hT z (by rw [← F.2.2.2.2.2.2.2.2.2]; exact hz)) hd hlo (by show k + 1 ≤ mc; omega) (by show n + 6 ≤ ms; omega) F.2.2.2.2.1 (fun t ht hz hq => ?_) hS.2.2 (by omega) (by omega)
  exact ⟨⟨x, hx, hrg x H t.heap hR hz hq⟩, Nat.le_trans hS.1 hz, fun q g1 g2 => (hq q (Nat.lt_of_lt_of_le g1 hS.1)).trans (hS.2.1 q g1 g2)⟩
end J4
end FR4
