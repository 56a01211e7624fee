/-! FRAME 6: statics; arrays of references; lists as one cell -/
set_option maxRecDepth 100000
section FR6
/-- a walk of a method of a class that has natives -/
theorem vx_ofWF {l : Launch} {y : MethodName} {ws ws' : List Cond} {rm : Room} {Pc : Array Value → State → Prop} {Qc : Array Value → State → Outcome → State → Prop} {XC : String → State → State → Prop} {mc ms : Nat} {free : Addr → Prop} {cc : ByteArray} {maxL : Nat} {ret : Option FieldType}
    (hy : plainFor y = true) (hw : ws = Cond.code y cc maxL ret :: ws')
    (body : ∀ p e s m args below meth c s₁, BodyLoose p l y (headSpec ws rm) cc maxL ret e s m args below meth c s₁ → c.maxLocals = maxL → (∀ x ∈ c.exceptionTable.toList, False) → Pc args s →
      W p l e (headSpec ws rm).room s m args below meth c s.heap [] 0 0 (vx_MQ below Qc XC args s mc ms free) (entryFrame m args maxL)) : vx_Met l y ws rm Pc Qc XC mc ms free := by
  refine MetFree.of_bodySF (code := cc) (maxLocals := maxL) (ret := ret) hy ?_ ?_
  · intro args s m h hn
    obtain ⟨meth, c, h1, h2, h3, h4, h5, h6, -, -⟩ := Cond.code_spec hn (atoms_spec (ws := ws) h _ (by rw [hw]; exact List.mem_cons_self))
    exact ⟨meth, c, h1, h2, h3, h4, h5, h6⟩
  · intro p e s m args below meth c s₁ B hml hP _
    have hh0 : s₁.heap = s.heap := by rw [B.state]; rfl
    have ht : ∀ x ∈ c.exceptionTable.toList, False := by
      obtain ⟨meth9, c9, h1, h2, -, -, -, -, h7, -⟩ := Cond.code_spec B.named (atoms_spec (ws := ws) B.pre _ (by rw [hw]; exact List.mem_cons_self))
      cases Option.some.inj (h1.symm.trans B.method)
      cases Option.some.inj (h2.symm.trans (Stand.of_body B).code)
      intro x hx
      rw [Array.isEmpty_iff.mp h7] at hx
      cases hx
    obtain ⟨t, a1, o, b1, b2, b3⟩ := body p e s m args below meth c s₁ B hml ht hP s₁ hh0 (Stand.of_body B)
    exact ⟨t, o, a1, b1, b2, b3⟩
section G6
variable {S : Type} {Γ : GG} {A : Nat → Prop} {Rep : S → Heap → Prop} {l : Launch} {own nm : String} {cc : ByteArray} {nL : Nat} {ret : Option FieldType} {hh : List (Nat × Nat × Nat × Nat)} {d mc ms : Nat} {QP : Option Value → S → Prop} {XP : String → S → Prop} {cl sl : Nat} {x : S} {pc : Nat} {lo : List (Option Value)} {st : List Value}
theorem Ct.ofJF {y : MethodName} {as : List Value} (hy : plainFor y = true) (hown : y.cls = own) (hnm : y.name = nm) (hc : ∀ v ∈ as, v.category = 1) (hn : as.length ≤ nL) (hlo : lo = as.map some ++ List.replicate (nL - as.length) none)
    (k : J Γ A Rep l own nm cc nL ret [] d mc ms QP XP mc ms x 0 lo []) : Ct Γ A Rep l y (ws_ y cc nL ret) d mc ms as x QP XP := by
  subst hown; subst hnm
  refine vx_ofWF (cc := cc) (maxL := nL) (ret := ret) hy rfl ?_
  intro p e s m args below meth c s₁ B hml ht hv
  obtain ⟨rfl, hK, hR⟩ := hv
  have hts := atoms_spec (ws := ws_ y cc nL ret) B.pre
  have hts : ∀ w ∈ lw_all, w.before _ s = true := fun w h => hts w (List.mem_cons_of_mem _ h)
  have hl := jl_entry hc hn hlo
  have htb : c.exceptionTable.toList = tableOf [] := List.eq_nil_iff_forall_not_mem.mpr ht
  rw [lg_entry_eq]
  exact k p e s m _ below meth c s.heap [] _ 0 0 ⟨B.exec, B.bytes, hml, B.returns, B.notSynchronized, findClass_of_methodNamed B.named, hts, (name_of_methodNamed B.named B.method).1, hK, htb⟩ hR va_S.rf hl (by omega) (by omega)
theorem j_eqI {a : Int} (b : Int) (he : b = a) (kk : J Γ A Rep l own nm cc nL ret hh d mc ms QP XP cl sl x pc lo (IV b :: st)) : J Γ A Rep l own nm cc nL ret hh d mc ms QP XP cl sl x pc lo (IV a :: st) := by
  subst he
  exact kk
/-- a static -/
theorem j_gets {C n0 d0 ref : String} {v : Value} {idx : Nat} (hE : ∀ (s : State) (H : Heap), Γ.2.2 s H → va_Z C n0 d0 v A s H) (hq : Cond.fieldLink own idx ref n0 d0 ∈ lw_all) (hsame : ref = C ∨ Cond.sameField ref C n0 d0 ∈ lw_all) (hdg : decode cc pc = .ok (.getstatic idx, 3)) (kk : J Γ A Rep l own nm cc nL ret hh d mc ms QP XP cl sl x (pc + 3) lo (v :: st)) : J Γ A Rep l own nm cc nL ret hh d mc ms QP XP cl sl x pc lo st := by
  intro p e s m args below meth c H locs ls k n F hR hS hl h1 h2
  have hs : ∀ y, s.fieldFound? C n0 d0 = some y → s.fieldFound? ref n0 d0 = some y := fun y hy => by
    rcases hsame with e1 | hs
    · rw [e1]; exact hy
    · exact u_same (F.2.2.2.2.2.2.1 _ hs) y hy
  exact va_gets F.1 F.2.1 (hE s s.heap F.2.2.2.2.2.2.2.2.1.2.1) hS F.2.2.2.2.2.1 (F.2.2.2.2.2.2.1 _ hq) hs hdg (kk p e s m args below meth c H locs ls k n F hR hS hl h1 h2)
theorem j_acmp_eq {rx ry : Option Nat} {off : Int} {tgt : Nat} (hdg : decode cc pc = .ok (.if_acmp .eq off, 3)) (ht : (pc : Int) + off = (tgt : Int)) (kt : rx = ry → J Γ A Rep l own nm cc nL ret hh d mc ms QP XP cl sl x tgt lo st) (kf : ¬ rx = ry → J Γ A Rep l own nm cc nL ret hh d mc ms QP XP cl sl x (pc + 3) lo st) : J Γ A Rep l own nm cc nL ret hh d mc ms QP XP cl sl x pc lo (va_rf ry :: va_rf rx :: st) := by
  intro p e s m args below meth c H locs ls k n F hR hS hl h1 h2
  exact lv_acmp_eq F.1 F.2.1 hdg ht (fun z => kt z p e s m args below meth c H locs ls k n F hR hS hl h1 h2) (fun z => kf z p e s m args below meth c H locs ls k n F hR hS hl h1 h2)
theorem j_acmp_ne {rx ry : Option Nat} {off : Int} {tgt : Nat} (hdg : decode cc pc = .ok (.if_acmp .ne off, 3)) (ht : (pc : Int) + off = (tgt : Int)) (kt : ¬ rx = ry → J Γ A Rep l own nm cc nL ret hh d mc ms QP XP cl sl x tgt lo st) (kf : rx = ry → J Γ A Rep l own nm cc nL ret hh d mc ms QP XP cl sl x (pc + 3) lo st) : J Γ A Rep l own nm cc nL ret hh d mc ms QP XP cl sl x pc lo (va_rf ry :: va_rf rx :: st) := by
  intro p e s m args below meth c H locs ls k n F hR hS hl h1 h2
  exact lv_acmp_ne F.1 F.2.1 hdg ht (fun z => kt z p e s m args below meth c H locs ls k n F hR hS hl h1 h2) (fun z => kf z p e s m args below meth c H locs ls k n F hR hS hl h1 h2)
/-- the length of an array of references that isn't ours -/
theorem j_alenE {a n0 : Nat} {ty : FieldType} {f : Nat → Value} (hE : ∀ (s : State) (H : Heap), Γ.2.2 s H → va_T ty a n0 f A s H) (hdg : decode cc pc = .ok (.arraylength, 1)) (kk : J Γ A Rep l own nm cc nL ret hh d mc ms QP XP cl sl x (pc + 1) lo (IV n0 :: st)) : J Γ A Rep l own nm cc nL ret hh d mc ms QP XP cl sl x pc lo (.ref a :: st) := by
  intro p e s m args below meth c H locs ls k n F hR hS hl h1 h2
  exact va_tlen F.1 F.2.1 (hE s s.heap F.2.2.2.2.2.2.2.2.1.2.1) hS (iI_nat n0).symm hdg (kk p e s m args below meth c H locs ls k n F hR hS hl h1 h2)
/-- a number of an array that isn't ours -/
theorem j_ialdE {a n0 : Nat} {f : Nat → Int} {i : Int} (hE : ∀ (s : State) (H : Heap), Γ.2.2 s H → va_T .int a n0 (fun k => IV (f k)) A s H) (hn : n0 < 2147483648) (hi : 0 ≤ i ∧ i < (n0 : Int)) (hdg : decode cc pc = .ok (.iaload, 1)) (kk : J Γ A Rep l own nm cc nL ret hh d mc ms QP XP cl sl x (pc + 1) lo (IV (f i.toNat) :: st)) : J Γ A Rep l own nm cc nL ret hh d mc ms QP XP cl sl x pc lo (IV i :: .ref a :: st) := by
  intro p e s m args below meth c H locs ls k n F hR hS hl h1 h2
  refine va_ti F.1 F.2.1 (hE s s.heap F.2.2.2.2.2.2.2.2.1.2.1) hS (iI_in hi.1 hi.2 hn) ?_ hdg (kk p e s m args below meth c H locs ls k n F hR hS hl h1 h2)
  rw [iI_clamp ⟨by omega, by omega⟩]
theorem j_baldE {a n0 : Nat} {f : Nat → Int} {i : Int} (hE : ∀ (s : State) (H : Heap), Γ.2.2 s H → H[a]? = some (aCell (Γ.2.1 2) 2 n0 f)) (hn : n0 < 2147483648) (hi : 0 ≤ i ∧ i < (n0 : Int)) (hdg : decode cc pc = .ok (.baload, 1)) (kk : J Γ A Rep l own nm cc nL ret hh d mc ms QP XP cl sl x (pc + 1) lo (IV (f i.toNat) :: st)) : J Γ A Rep l own nm cc nL ret hh d mc ms QP XP cl sl x pc lo (IV i :: .ref a :: st) := by
  intro p e s m args below meth c H locs ls k n F hR hS hl h1 h2
  exact jw_bald F ⟨hn, hE s H (GK.at hS F.2.2.2.2.2.2.2.2.1).2.1⟩ hi hdg (kk p e s m args below meth c H locs ls k n F hR hS hl h1 h2)
/-- a class constant -/
theorem j_ldcM {C : String} {idx mi : Nat} (hE : ∀ (s : State) (H : Heap), Γ.2.2 s H → va_Mi C mi s) (hq : Cond.classLink own idx C ∈ lw_all) (hdg : decode cc pc = .ok (.ldc idx, 2)) (kk : J Γ A Rep l own nm cc nL ret hh d mc ms QP XP cl sl x (pc + 2) lo (.ref mi :: st)) : J Γ A Rep l own nm cc nL ret hh d mc ms QP XP cl sl x pc lo st := by
  intro p e s m args below meth c H locs ls k n F hR hS hl h1 h2
  exact va_ldcM F.1 F.2.1 F.2.2.2.2.2.1 (F.2.2.2.2.2.2.1 _ hq) (hE s s.heap F.2.2.2.2.2.2.2.2.1.2.1) hdg (kk p e s m args below meth c H locs ls k n F hR hS hl h1 h2)
/-- references that may be null -/
theorem j_aload_nR {i : Fin 4} {r : Option Nat} (hdg : decode cc pc = .ok (.aload_n i, 1)) (hv : lo[(i : Nat)]? = some (some (va_rf r))) (kk : J Γ A Rep l own nm cc nL ret hh d mc ms QP XP cl sl x (pc + 1) lo (va_rf r :: st)) : J Γ A Rep l own nm cc nL ret hh d mc ms QP XP cl sl x pc lo st := by
  intro p e s m args below meth c H locs ls k n F hR hS hl h1 h2
  cases r with
  | none => exact lv_aload_nN F.1 F.2.1 hdg rfl (hl.2.2.2 _ _ hv).1 (kk p e s m args below meth c H locs ls k n F hR hS hl h1 h2)
  | some a => exact lv_aload_n F.1 F.2.1 hdg rfl (hl.2.2.2 _ _ hv).1 (kk p e s m args below meth c H locs ls k n F hR hS hl h1 h2)
theorem j_aloadR {i : Nat} {r : Option Nat} (hdg : decode cc pc = .ok (.aload i, 2)) (hv : lo[i]? = some (some (va_rf r))) (kk : J Γ A Rep l own nm cc nL ret hh d mc ms QP XP cl sl x (pc + 2) lo (va_rf r :: st)) : J Γ A Rep l own nm cc nL ret hh d mc ms QP XP cl sl x pc lo st := by
  intro p e s m args below meth c H locs ls k n F hR hS hl h1 h2
  cases r with
  | none => exact lv_aloadN F.1 F.2.1 hdg (hl.2.2.2 _ _ hv).1 (kk p e s m args below meth c H locs ls k n F hR hS hl h1 h2)
  | some a => exact lv_aload F.1 F.2.1 hdg (hl.2.2.2 _ _ hv).1 (kk p e s m args below meth c H locs ls k n F hR hS hl h1 h2)
theorem j_astore_nR {i : Fin 4} {r : Option Nat} (hdg : decode cc pc = .ok (.astore_n i, 1)) {lo' : List (Option Value)} (hi : (i : Nat) < nL) (hlo : lo.set (i : Nat) (some (va_rf r)) = lo') (kk : J Γ A Rep l own nm cc nL ret hh d mc ms QP XP cl sl x (pc + 1) lo' st) : J Γ A Rep l own nm cc nL ret hh d mc ms QP XP cl sl x pc lo (va_rf r :: st) := by
  intro p e s m args below meth c H locs ls k n F hR hS hl h1 h2
  subst hlo
  cases r with
  | none => exact lv_astore_nN F.1 F.2.1 hdg rfl hl.has hi rfl (fun ls' hl' => kk p e s m args below meth c H locs ls' k n F hR hS (hl.set hi rfl hl') h1 h2)
  | some a => exact lv_astore_n F.1 F.2.1 hdg rfl hl.has hi rfl (fun ls' hl' => kk p e s m args below meth c H locs ls' k n F hR hS (hl.set hi rfl hl') h1 h2)
theorem j_astoreR {i : Nat} {r : Option Nat} (hdg : decode cc pc = .ok (.astore i, 2)) {lo' : List (Option Value)} (hi : i < nL) (hlo : lo.set i (some (va_rf r)) = lo') (kk : J Γ A Rep l own nm cc nL ret hh d mc ms QP XP cl sl x (pc + 2) lo' st) : J Γ A Rep l own nm cc nL ret hh d mc ms QP XP cl sl x pc lo (va_rf r :: st) := by
  intro p e s m args below meth c H locs ls k n F hR hS hl h1 h2
  subst hlo
  cases r with
  | none => exact lv_astoreN F.1 F.2.1 hdg hl.has hi rfl (fun ls' hl' => kk p e s m args below meth c H locs ls' k n F hR hS (hl.set hi rfl hl') h1 h2)
  | some a => exact lv_astore F.1 F.2.1 hdg hl.has hi rfl (fun ls' hl' => kk p e s m args below meth c H locs ls' k n F hR hS (hl.set hi rfl hl') h1 h2)
theorem j_Rret {r : Option Nat} {rt : FieldType} (hr : ret = some rt) (hrt : (∃ n, rt = .object n) ∨ ∃ t, rt = .array t) (hq : QP (some (va_rf r)) x) (hdg : decode cc pc = .ok (.areturn, 1)) : J Γ A Rep l own nm cc nL ret hh d mc ms QP XP cl sl x pc lo [va_rf r] := by
  cases r with
  | none => exact j_nret hr hrt hq hdg
  | some a => exact j_aret hr hrt hq hdg
/-- a call of an inherited method -/
theorem j_callVi {QP' : Option Value → S → Prop} {y : MethodName} {bytes : ByteArray} {maxL d' mc' ms' idx : Nat} {C : String} {b : Nat} {rt : Option FieldType} {As rest : List Value} (hM : Ct Γ A Rep l y (ws_ y bytes maxL rt) d' mc' ms' (.ref b :: As) x QP' X0) (hG : GoodIn lw_all (ws_ y bytes maxL rt)) (q0 : Cond.initialized y.cls ∈ lw_all) (q1 : Cond.methodLink own idx y ∈ lw_all) (q2 : Cond.instanceMethod y ∈ lw_all) (q3 : Cond.selects C y y ∈ lw_all) (hm : MD y As.length) (hrc : RC Γ A Rep x b C) (hd : d' + 1 ≤ d) (hL : maxL ≤ 80) (hst : st = As.reverse ++ .ref b :: rest) (hrest : (rest.map fun v => v.category).sum ≤ 8) (hdg : decode cc pc = .ok (.invokevirtual idx, 3))
    (kk : ∀ (v : Option Value) (x' : S), QP' v x' → J Γ A Rep l own nm cc nL ret hh d mc ms QP XP cl sl x' (pc + 3) lo (v.toList ++ rest)) : J Γ A Rep l own nm cc nL ret hh d mc ms QP XP (cl + mc') (sl + ms') x pc lo st := by
  intro p e s m args below meth c H locs ls k n F hR hS hl h1 h2
  subst hst
  have hts := F.2.2.2.2.2.2.1
  have hK := F.2.2.2.2.2.2.2.2.1
  refine jw_back (vx_runV (As := As) (rest := rest) (b := b) (C := C) ⟨F.1, F.2.1, F.2.2.1, F.2.2.2.2.2.1, hts⟩ hM ⟨callB_of As.length hts hG rfl rfl rfl (hts _ q0) (hts _ q1) hm ⟨by show d' + 1 ≤ d; exact hd, by show 8 + (maxL + 11) + 100 * d' ≤ 100 * d; omega⟩, hts _ q2, hts _ q3⟩ ⟨PD.blind, hrc s H (GK.at hS hK) hR, fun U hU hW => ⟨rfl, GK.warm hW (by rw [hU]; exact GK.at hS hK), by rw [hU]; exact hR⟩⟩ rfl rfl (hl.1) rfl (lv_room hrest) hdg ⟨by show k + mc' ≤ mc; omega, by show n + ms' ≤ ms; omega⟩) hS (fun q h => h) (fun v x' H1 locs1 hq hR1 z1 o1 hS1 => kk v x' hq p e s m args below meth c H1 locs1 ls (k + mc') (n + ms') F hR1 hS1 hl (by omega) (by omega)) (fun E ce q9 x' H1 locs1 hq => hq.elim)
end G6
section W6
variable {p : Program} {l : Launch} {e : Env} {R : Room} {s : State} {m : MethodId} {args : Array Value} {below : List Frame} {meth : Method} {c : Code} {H : Heap} {locs : List Loc} {cells slots : Nat} {Q : State → Prop}
variable {cc : ByteArray} {pc : Nat} {ls : Array Slot} {rest : List Value} {Γ : GG} {A : Nat → Prop} {a : Nat} {own nm : String} {nL : Nat} {ret : Option FieldType} {hh : List (Nat × Nat × Nat × Nat)}
abbrev rC (Γ : GG) (n : Nat) (f : Nat → Option Nat) : Cell := vp_cell (Γ.2.1 5) (n, .inr (.inr (.inr (.inr f))))
/-- a cell of the class C -/
def isC0 (s : State) (H : Heap) (C : String) (v : Nat) : Prop := ∃ cell : Cell, H[v]? = some cell ∧ cell.vm.isStatics = false ∧ s.vm.findClass C = some cell.cls
theorem jw_aast (F : JF Γ A own nm cc nL ret hh p s m args meth c) {n v : Nat} {f : Nat → Option Nat} {i : Int} {C : String} (hc : n < 2147483648 ∧ H[a]? = some (rC Γ n f)) (hv : isC0 s H C v) (hca : va_Nw (.castable C "java/lang/Object") s) (hi : 0 ≤ i ∧ i < (n : Int)) (hS : va_S A s.heap H locs) (hA : A a) (hdg : decode cc pc = .ok (.aastore, 1))
    (kk : ∀ (H1 : Heap) (locs1 : List Loc), (n < 2147483648 ∧ H1[a]? = some (rC Γ n (va_up f i.toNat (some v)))) → H1.size = H.size → (∀ q : Nat, q ≠ a → H1[q]? = H[q]?) → va_S A s.heap H1 locs1 → W p l e R s m args below meth c H1 locs1 cells slots Q (F0 m (pc + 1) ls rest)) : W p l e R s m args below meth c H locs cells slots Q (F0 m pc ls (.ref v :: IV i :: .ref a :: rest)) := by
  have hr : RR i := ⟨by omega, by omega⟩
  have hK := F.2.2.2.2.2.2.2.2.1.1
  obtain ⟨cellV, g1, g3, g2⟩ := hv
  obtain ⟨kA, comp, k1, k2, k3, -⟩ := (hK.2 4 _ rfl).2
  obtain ⟨kE, hkE, -⟩ := Vm.findClass_spec k3
  obtain ⟨c0, t1, f1, f2, f3⟩ := Cond.castable_spec (va_Nw.use (A := args) rfl hca)
  cases g2.symm.trans f1
  cases k3.symm.trans f2
  obtain ⟨kC, hkC, -⟩ := Vm.findClass_spec g2
  have hin := iI_in (a := i) hi.1 hi.2 hc.1
  refine W.aast F.1 F.2.1 hc.2 (fun q h => by cases h) (fun h => by cases h) k1 k2 rfl hkE ⟨fun q => hin (Or.inl q), by show _ < (arrV _ _ _).slots.size; rw [arrV_size]; exact Nat.not_le.mp fun q => hin (Or.inr q)⟩ g1 (fun q h => by rw [h] at g3; cases g3) hkC f3 rfl rfl hdg fun H1 e z oq => ?_
  refine kk H1 _ ⟨hc.1, ?_⟩ z oq (hS.put z oq hA)
  rw [iI_clamp hr] at e
  rw [e]
  show some ((vp_cell (Γ.2.1 5) (n, .inr (.inr (.inr (.inr f))))).setSlot i.toNat (.ref v)) = some (vp_cell (Γ.2.1 5) (n, .inr (.inr (.inr (.inr (va_up f i.toNat (some v)))))))
  rw [vp_cell_q, vp_cell_q, arrV_store]
  congr 2
  funext q
  by_cases hq : q = i.toNat
  · subst hq
    simp [updV, va_up, va_rf]
  · simp [updV, va_up, hq]
theorem jw_aastN (F : JF Γ A own nm cc nL ret hh p s m args meth c) {n : Nat} {f : Nat → Option Nat} {i : Int} (hc : n < 2147483648 ∧ H[a]? = some (rC Γ n f)) (hi : 0 ≤ i ∧ i < (n : Int)) (hS : va_S A s.heap H locs) (hA : A a) (hdg : decode cc pc = .ok (.aastore, 1))
    (kk : ∀ (H1 : Heap) (locs1 : List Loc), (n < 2147483648 ∧ H1[a]? = some (rC Γ n (va_up f i.toNat none))) → H1.size = H.size → (∀ q : Nat, q ≠ a → H1[q]? = H[q]?) → va_S A s.heap H1 locs1 → W p l e R s m args below meth c H1 locs1 cells slots Q (F0 m (pc + 1) ls rest)) : W p l e R s m args below meth c H locs cells slots Q (F0 m pc ls (.null :: IV i :: .ref a :: rest)) := by
  have hr : RR i := ⟨by omega, by omega⟩
  have hK := F.2.2.2.2.2.2.2.2.1.1
  have hin := iI_in (a := i) hi.1 hi.2 hc.1
  refine va_WaastN (C := "java/lang/Object") F.1 F.2.1 hc.2 ((hK.2 4 _ rfl).1 n (fun j => va_rf (f j))) (fun h => by cases h) (by show ¬ (iI i < 0 ∨ (arrV _ _ _).slots.size ≤ _); rw [arrV_size]; exact hin) rfl rfl hdg fun H1 e z oq => ?_
  refine kk H1 _ ⟨hc.1, ?_⟩ z oq (hS.put z oq hA)
  rw [iI_clamp hr] at e
  rw [e]
  show some ((vp_cell (Γ.2.1 5) (n, .inr (.inr (.inr (.inr f))))).setSlot i.toNat .null) = some (vp_cell (Γ.2.1 5) (n, .inr (.inr (.inr (.inr (va_up f i.toNat none))))))
  rw [vp_cell_q, vp_cell_q, arrV_store]
  congr 2
  funext q
  by_cases hq : q = i.toNat
  · subst hq
    simp [updV, va_up, va_rf]
  · simp [updV, va_up, hq]
theorem jw_anew (F : JF Γ A own nm cc nL ret hh p s m args meth c) {idx N : Nat} {i : Int} (hq : Cond.classLink own idx "java/lang/Object" ∈ lw_all) (hao : va_AO "java/lang/Object" s) (hi : 0 ≤ i) (hN : i = (N : Int)) (hsm : N < 100000000) (hS : va_S A s.heap H locs) (hA : ∀ q : Nat, s.heap.size ≤ q → A q) (hcells : cells + 1 ≤ R.cells) (hslots : slots + N ≤ R.slots) (hdg : decode cc pc = .ok (.anewarray idx, 3))
    (kk : ∀ (q : Nat) (H1 : Heap), (N < 2147483648 ∧ H1[q]? = some (rC Γ N (fun _ => none))) → q = H.size → H1.size = H.size + 1 → (∀ z : Nat, z < H.size → H1[z]? = H[z]?) → va_S A s.heap H1 locs → W p l e R s m args below meth c H1 locs (cells + 1) (slots + N) Q (F0 m (pc + 3) ls (.ref q :: rest))) : W p l e R s m args below meth c H locs cells slots Q (F0 m pc ls (IV i :: rest)) := by
  have hr : RR i := ⟨by omega, by omega⟩
  have hK := F.2.2.2.2.2.2.2.2.1.1
  have h0 : ¬ iI i < 0 := by rw [← iI_0, iI_lt hr ⟨by decide, by decide⟩]; omega
  have hn : (iI i).toNatClampNeg = N := by rw [iI_clamp hr]; omega
  subst hn
  refine W.anew F.1 F.2.1 F.2.2.2.2.2.1 (F.2.2.2.2.2.2.1 _ hq) (va_AO.use hao) rfl hdg rfl h0 (by omega) hcells hslots fun cA kA comp f1 f2 f3 f4 => ?_
  obtain ⟨kA9, comp9, -, -, -, h9⟩ := (hK.2 4 _ rfl).2
  have e9 : cA = Γ.2.1 5 := Option.some.inj (f1.symm.trans h9)
  generalize hH1 : H.push ({ cls := cA, slots := Array.replicate (iI i).toNatClampNeg .null, vm := .none } : Cell) = H1
  have z1 : H1.size = H.size + 1 := by rw [← hH1, Array.size_push]
  have o1 : ∀ q : Nat, q < H.size → H1[q]? = H[q]? := fun q hq => by rw [← hH1, Array.getElem?_push, if_neg (Nat.ne_of_lt hq)]
  refine kk H.size H1 ⟨by omega, ?_⟩ rfl z1 o1 ⟨Nat.le_trans hS.1 (by omega), fun x h1 h2 => (o1 x (Nat.lt_of_lt_of_le h1 hS.1)).trans (hS.2.1 x h1 h2), hS.2.2⟩
  show H1[H.size]? = some (vp_cell _ _)
  rw [vp_cell_q, ← e9, ← hH1, Array.getElem?_push_size]
  rw [← arrV_new]
  rfl
theorem jw_copyq (F : JF Γ A own nm cc nL ret hh p s m args meth c) {idx a0 n0 n1 N : Nat} {f g : Nat → Option Nat} {C : String} {i : Int} (hq1 : Cond.methodLink own idx arraycopyName ∈ lw_all) (hq2 : Cond.native arraycopyName ∈ lw_all) (hq3 : Cond.static arraycopyName ∈ lw_all) (hq4 : Cond.initialized "java/lang/System" ∈ lw_all) (hsz : ls.size = nL)
    (hne : a0 ≠ a) (hA0 : A a0) (hA1 : A a) (hc0 : H[a0]? = some (rC Γ n0 f)) (hc1 : n1 < 2147483648 ∧ H[a]? = some (rC Γ n1 g)) (hN : i = (N : Int)) (hNs : N < 2147483648) (hN0 : N ≤ n0) (hN1 : N ≤ n1) (hel : ∀ j : Nat, j < N → ∀ y : Nat, f j = some y → isC0 s H C y) (hca : va_Nw (.castable C "java/lang/Object") s) (hS : va_S A s.heap H locs) (hfr : 1 ≤ R.frames) (hlo : (rest.map fun v => v.category).sum + 18 ≤ R.locals) (hdg : decode cc pc = .ok (.invokestatic idx, 3))
    (kk : ∀ (H1 : Heap) (locs1 : List Loc), (n1 < 2147483648 ∧ H1[a]? = some (rC Γ n1 (fun k => if k < N then f k else g k))) → H1.size = H.size → (∀ z : Nat, z ≠ a → H1[z]? = H[z]?) → va_S A s.heap H1 locs1 → W p l e R s m args below meth c H1 locs1 cells slots Q (F0 m (pc + 3) ls rest)) : W p l e R s m args below meth c H locs cells slots Q (F0 m pc ls (IV i :: IV 0 :: .ref a :: IV 0 :: .ref a0 :: rest)) := by
  have hr : RR i := ⟨by omega, by omega⟩
  have hK := F.2.2.2.2.2.2.2.2.1.1
  have hts := F.2.2.2.2.2.2.1
  have k0 : (iI 0).toNatClampNeg = 0 := by decide
  have ki : (iI i).toNatClampNeg = N := by rw [iI_clamp hr]; omega
  have t0 : (iI 0).toInt = 0 := by decide
  have ti : (iI i).toInt = (N : Int) := by rw [iI_toInt hr, hN]
  have g0 : ¬ iI 0 < 0 := by decide
  have gi : ¬ iI i < 0 := by rw [← iI_0, iI_lt hr ⟨by decide, by decide⟩]; omega
  intro T hT X
  obtain ⟨-, kk0, hk0, cm0, hkk0⟩ := (hK.2 4 _ rfl).1 n0 (fun j => va_rf (f j))
  obtain ⟨-, kk1, hk1, cm1, hkk1⟩ := (hK.2 4 _ rfl).1 n1 (fun j => va_rf (g j))
  obtain ⟨vm', X', step⟩ := X.arraycopy F.1 F.2.2.2.2.2.1 (hts _ hq1) (hts _ hq2) (hts _ hq3) (hts _ hq4) (src := a0) (dst := a) (cs := rC Γ n0 f) (cd := rC Γ n1 g) (srcPos := iI 0) (destPos := iI 0) (n := iI i) (by rw [hT]; exact hc0) (by rw [hT]; exact hc1.2)
    (fun _ h => by cases h) (fun _ h => by cases h) (fun h => by cases h) (fun h => by cases h) hk0 hk1 hkk0 hkk1 rfl g0 g0 gi
    (by rw [t0, ti]; show ¬ _ > ((arrV (Γ.2.1 5) n0 (fun j => va_rf (f j))).slots.size : Int); rw [arrV_size]; omega)
    (by rw [t0, ti]; show ¬ _ > ((arrV (Γ.2.1 5) n1 (fun j => va_rf (g j))).slots.size : Int); rw [arrV_size]; omega)
    (fun vm₁ hal j hj => by
      rw [ki] at hj
      have e9 : (rC Γ n0 f).slots.getD ((iI 0).toNatClampNeg + j) .null = va_rf (f j) := by
        show (arrV (Γ.2.1 5) n0 (fun j => va_rf (f j))).slots.getD _ _ = _
        rw [k0, Nat.zero_add, Array.getD_eq_getD_getElem?, arrV_read _ _ (by omega)]
        rfl
      rw [e9]
      cases hy : f j with
      | none => exact ⟨rfl, trivial⟩
      | some y =>
        obtain ⟨cellV, g1, g2, g3⟩ := hel j hj y hy
        obtain ⟨kA, comp, r1, r2, r3, -⟩ := (hK.2 4 _ rfl).2
        cases hk1.symm.trans r1
        cases hkk1.symm.trans r2
        obtain ⟨kC, hkC, -⟩ := Vm.findClass_spec g3
        obtain ⟨kE, hkE, -⟩ := Vm.findClass_spec r3
        obtain ⟨kC', hkC', -⟩ := hal.2.2 _ _ hkC
        obtain ⟨kE', hkE', -⟩ := hal.2.2 _ _ hkE
        obtain ⟨c9, t9, f1, f2, f3⟩ := Cond.castable_spec (va_Nw.use (A := args) rfl hca)
        cases g3.symm.trans f1
        cases r3.symm.trans f2
        refine ⟨rfl, cellV, (show T.heap[y]? = some cellV by rw [hT]; exact g1), (fun q h => by rw [h] at g2; cases g2), ⟨kC', hkC'⟩, ?_, ?_⟩
        · exact ⟨kE', hkE'⟩
        · show vm₁.assignable _ _ = true
          rw [hal.assignable]
          exact f3)
    (g := F0 m pc ls (IV i :: IV 0 :: .ref a :: IV 0 :: .ref a0 :: rest)) rfl (by rw [F.2.2.1]; exact hsz) (rest := rest) rfl (by rw [F.2.1]; exact hdg) hfr (by show 2 * 0 + _ + _ ≤ _; have hw : nativeFrameWords "java/lang/System" "arraycopy" 5 = 7 := (by decide); omega)
  have e1 : copied (rC Γ n0 f) (rC Γ n1 g) (iI 0) (iI 0) (iI i) = rC Γ n1 (fun k => if k < N then f k else g k) := by
    show copied (vp_cell (Γ.2.1 5) (n0, .inr (.inr (.inr (.inr f))))) (vp_cell (Γ.2.1 5) (n1, .inr (.inr (.inr (.inr g))))) _ _ _ = vp_cell (Γ.2.1 5) (n1, .inr (.inr (.inr (.inr _))))
    rw [vp_cell_q, vp_cell_q, vp_cell_q]
    refine (va_copied (fun z => va_rf z) (Γ.2.1 5) (Γ.2.1 5) (sp := (iI 0).toNatClampNeg) (dp := (iI 0).toNatClampNeg) (n := (iI i).toNatClampNeg) f g (by rw [k0, ki]; omega)).trans ?_
    congr 1
    funext q
    show va_rf _ = va_rf _
    rw [k0, ki]
    unfold va_cpy
    by_cases hq : q < N
    · rw [if_pos ⟨Nat.zero_le _, by omega⟩, if_pos hq, Nat.sub_zero, Nat.zero_add]
    · rw [if_neg (fun z => hq (by omega)), if_neg hq]
  rw [e1] at X' step
  have hl : a < H.size := (Array.getElem?_eq_some_iff.mp hc1.2).1
  have hheap : ((T.setVm vm').setCell a (rC Γ n1 (fun k => if k < N then f k else g k))).heap = H.setIfInBounds a (rC Γ n1 (fun k => if k < N then f k else g k)) := by rw [← hT]; rfl
  have oq : ∀ q : Nat, q ≠ a → (H.setIfInBounds a (rC Γ n1 (fun k => if k < N then f k else g k)))[q]? = H[q]? := fun q hq => by simp [Array.getElem?_setIfInBounds, Ne.symm hq]
  obtain ⟨t, a1, b1⟩ := kk _ _ ⟨hc1.1, show (H.setIfInBounds a _)[a]? = some _ by simp [Array.getElem?_setIfInBounds, hl]⟩ (by simp) oq ⟨by simp; exact hS.1, fun q g1 g2 => by
      rw [oq q (fun e => g2 (by rw [e]; exact hA1))]
      exact hS.2.1 q g1 g2, fun q hq => by
      rcases List.mem_append.mp hq with h | h
      · exact hS.2.2 q h
      · obtain ⟨z, -, hz⟩ := List.mem_map.mp h
        rw [← hz]
        exact hA1⟩ _ hheap X'
  exact ⟨t, step t a1, b1⟩
end W6
section J6
variable {Γ : GG} {A : Nat → Prop} {l : Launch} {own nm : String} {cc : ByteArray} {nL : Nat} {ret : Option FieldType} {hh : List (Nat × Nat × Nat × Nat)} {d mc ms : Nat} {QP : Option Value → AH → Prop} {XP : String → AH → Prop} {cl sl : Nat} {h : AH} {pc : Nat} {lo : List (Option Value)} {st : List Value}
/-- castable to Object -/
def KO (Γ : GG) (C : String) : Prop := ∀ (s : State) (H : Heap), Γ.2.2 s H → va_Nw (.castable C "java/lang/Object") s
theorem j1_aast {a o9 n0 v : Nat} {f : Nat → Option Nat} {i : Int} {C : String} (ha : h a = some (aR o9 n0 f)) (hv : RC Γ A (Rep1 Γ A) h v C) (hca : KO Γ C) (hi : 0 ≤ i ∧ i < (n0 : Int)) (hdg : decode cc pc = .ok (.aastore, 1)) (kk : ∀ h' : AH, h' = upH h a (aR o9 n0 (va_up f i.toNat (some v))) → J Γ A (Rep1 Γ A) l own nm cc nL ret hh d mc ms QP XP cl sl h' (pc + 1) lo st) : J Γ A (Rep1 Γ A) l own nm cc nL ret hh d mc ms QP XP cl sl h pc lo (.ref v :: IV i :: .ref a :: st) := by
  intro p e s m args below meth c H locs ls k n F hR hS hl h1 h2
  exact jw_aast F (hR a _ ha).2 (hv s H (GK.at hS F.2.2.2.2.2.2.2.2.1) hR) (hca s s.heap F.2.2.2.2.2.2.2.2.1.2.1) hi hS (hR a _ ha).1 hdg fun H1 locs1 e1 e2 e3 hS1 => kk _ rfl p e s m args below meth c H1 locs1 ls k n F (hR.set ha e1 e3) hS1 hl h1 h2
theorem j1_aastN {a o9 n0 : Nat} {f : Nat → Option Nat} {i : Int} (ha : h a = some (aR o9 n0 f)) (hi : 0 ≤ i ∧ i < (n0 : Int)) (hdg : decode cc pc = .ok (.aastore, 1)) (kk : ∀ h' : AH, h' = upH h a (aR o9 n0 (va_up f i.toNat none)) → J Γ A (Rep1 Γ A) l own nm cc nL ret hh d mc ms QP XP cl sl h' (pc + 1) lo st) : J Γ A (Rep1 Γ A) l own nm cc nL ret hh d mc ms QP XP cl sl h pc lo (.null :: IV i :: .ref a :: st) := by
  intro p e s m args below meth c H locs ls k n F hR hS hl h1 h2
  exact jw_aastN F (hR a _ ha).2 hi hS (hR a _ ha).1 hdg fun H1 locs1 e1 e2 e3 hS1 => kk _ rfl p e s m args below meth c H1 locs1 ls k n F (hR.set ha e1 e3) hS1 hl h1 h2
theorem j1_anew {idx N : Nat} (o9 : Nat) {i : Int} (hal : AL Γ A) (hao : ∀ (s : State) (H : Heap), Γ.2.2 s H → va_AO "java/lang/Object" s) (hq : Cond.classLink own idx "java/lang/Object" ∈ lw_all) (hi : 0 ≤ i) (hN : i = (N : Int)) (hsm : N < 100000000) (hdg : decode cc pc = .ok (.anewarray idx, 3)) (kk : ∀ (a : Nat) (h' : AH), h a = none → h' = upH h a (aR o9 N (fun _ => none)) → J Γ A (Rep1 Γ A) l own nm cc nL ret hh d mc ms QP XP cl sl h' (pc + 3) lo (.ref a :: st)) : J Γ A (Rep1 Γ A) l own nm cc nL ret hh d mc ms QP XP (cl + 1) (sl + N) h pc lo (IV i :: st) := by
  intro p e s m args below meth c H locs ls k n F hR hS hl h1 h2
  have hK := F.2.2.2.2.2.2.2.2.1
  refine jw_anew F hq (hao s s.heap hK.2.1) hi hN hsm hS (fun q hq9 => hal s s.heap hK.2.1 q hq9) (by show k + 1 ≤ mc; omega) (by show n + N ≤ ms; omega) hdg fun q H1 e1 eq z1 o1 hS1 => ?_
  subst eq
  have hA : A H.size := hal s H (GK.at hS hK).2.1 _ (Nat.le_refl _)
  exact kk H.size _ hR.fresh rfl p e s m args below meth c H1 locs ls (k + 1) (n + N) F (hR.push hA e1 o1) hS1 hl (by omega) (by omega)
theorem j1_copyq {idx a a0 o0 o1 n0 n1 N : Nat} {f g : Nat → Option Nat} {C : String} {i : Int} (hq1 : Cond.methodLink own idx arraycopyName ∈ lw_all) (hq2 : Cond.native arraycopyName ∈ lw_all) (hq3 : Cond.static arraycopyName ∈ lw_all) (hq4 : Cond.initialized "java/lang/System" ∈ lw_all)
    (hne : a0 ≠ a) (ha0 : h a0 = some (aR o0 n0 f)) (ha : h a = some (aR o1 n1 g)) (hN : i = (N : Int)) (hNs : N < 2147483648) (hN0 : N ≤ n0) (hN1 : N ≤ n1) (hel : ∀ j : Nat, j < N → ∀ y : Nat, f j = some y → RC Γ A (Rep1 Γ A) h y C) (hca : KO Γ C) (hd : 1 ≤ d) (hrest : (st.map fun v => v.category).sum ≤ 8) (hdg : decode cc pc = .ok (.invokestatic idx, 3))
    (kk : ∀ h' : AH, h' = upH h a (aR o1 n1 (fun k => if k < N then f k else g k)) → J Γ A (Rep1 Γ A) l own nm cc nL ret hh d mc ms QP XP cl sl h' (pc + 3) lo st) : J Γ A (Rep1 Γ A) l own nm cc nL ret hh d mc ms QP XP cl sl h pc lo (IV i :: IV 0 :: .ref a :: IV 0 :: .ref a0 :: st) := by
  intro p e s m args below meth c H locs ls k n F hR hS hl h1 h2
  have hK := F.2.2.2.2.2.2.2.2.1
  refine jw_copyq F hq1 hq2 hq3 hq4 hl.1 hne (hR a0 _ ha0).1 (hR a _ ha).1 (hR a0 _ ha0).2.2 (hR a _ ha).2 hN hNs hN0 hN1 (fun j hj y hy => hel j hj y hy s H (GK.at hS hK) hR) (hca s s.heap hK.2.1) hS (by show 1 ≤ d; exact hd) (by show _ ≤ 100 * d; omega) hdg fun H1 locs1 e1 e2 e3 hS1 => kk _ rfl p e s m args below meth c H1 locs1 ls k n F (hR.set ha e1 e3) hS1 hl h1 h2
/-- the class object of an array of references -/
theorem j1_getC {a o9 n0 mi idx : Nat} {f : Nat → Option Nat} (ha : h a = some (aR o9 n0 f)) (hE : ∀ (s : State) (H : Heap), Γ.2.2 s H → va_Mi "[Ljava/lang/Object;" mi s ∧ va_Dc s) (q1 : Cond.methodLink own idx ⟨"java/lang/Object", "getClass", "()Ljava/lang/Class;"⟩ ∈ lw_all) (hd : 1 ≤ d) (hrest : (st.map fun v => v.category).sum ≤ 8) (hdg : decode cc pc = .ok (.invokevirtual idx, 3)) (kk : J Γ A (Rep1 Γ A) l own nm cc nL ret hh d mc ms QP XP cl sl h (pc + 3) lo (.ref mi :: st)) : J Γ A (Rep1 Γ A) l own nm cc nL ret hh d mc ms QP XP cl sl h pc lo (.ref a :: st) := by
  intro p e s m args below meth c H locs ls k n F hR hS hl h1 h2
  have hK := F.2.2.2.2.2.2.2.2.1
  have hts := F.2.2.2.2.2.2.1
  obtain ⟨t1, t2⟩ := hE s s.heap hK.2.1
  obtain ⟨kA9, comp9, -, -, -, h9⟩ := (hK.1.2 4 _ rfl).2
  exact va_getC F.1 F.2.1 (F.2.2.1.trans hl.1.symm) F.2.2.2.2.2.1 (hts _ q1) (va_Dc.use t2) (hts _ q1815) (hts _ q509) (hts _ q530) t1 ⟨_, (hR a _ ha).2.2, rfl, h9⟩ (by show 1 ≤ d; exact hd) (by show _ ≤ 100 * d; omega) hdg (kk p e s m args below meth c H locs ls k n F hR hS hl h1 h2)
theorem j1_aaldS {a o9 n0 v : Nat} {f : Nat → Option Nat} {i : Int} (ha : h a = some (aR o9 n0 f)) (hi : 0 ≤ i ∧ i < (n0 : Int)) (hf : f i.toNat = some v) (hdg : decode cc pc = .ok (.aaload, 1)) (kk : J Γ A (Rep1 Γ A) l own nm cc nL ret hh d mc ms QP XP cl sl h (pc + 1) lo (.ref v :: st)) : J Γ A (Rep1 Γ A) l own nm cc nL ret hh d mc ms QP XP cl sl h pc lo (IV i :: .ref a :: st) := by
  refine j1_aald ha hi hdg ?_
  rw [hf]
  exact kk
theorem upH_k {α : Type} {h : Nat → Option α} {a b : Nat} {c c0 c' : α} (hb : h b = some c) (ha : h a = some c0) (hne : c ≠ c0) : upH h a c' b = some c := by
  rw [upH_ne (fun e => by rw [e, ha] at hb; exact hne (Option.some.inj hb).symm)]
  exact hb
theorem upH_d {α : Type} {h : Nat → Option α} {a b : Nat} {c c' : α} (hb : h b = some c) (hne : b ≠ a) : upH h a c' b = some c := by rw [upH_ne hne]; exact hb
theorem fresh_ne {α : Type} {h : Nat → Option α} {a b : Nat} {c : α} (hb : h b = some c) (ha : h a = none) : b ≠ a := fun e => by rw [e, ha] at hb; cases hb
/-- another owner -/
theorem j1_tag {a o9 n0 : Nat} {f : Nat → Option Nat} (o1 : Nat) (ha : h a = some (aR o9 n0 f)) (kk : ∀ h' : AH, h' = upH h a (aR o1 n0 f) → J Γ A (Rep1 Γ A) l own nm cc nL ret hh d mc ms QP XP cl sl h' pc lo st) : J Γ A (Rep1 Γ A) l own nm cc nL ret hh d mc ms QP XP cl sl h pc lo st := by
  intro p e s m args below meth c H locs ls k n F hR hS hl h1 h2
  exact kk _ rfl p e s m args below meth c H locs ls k n F (hR.set ha (hR a _ ha).2 (fun q _ => rfl)) hS hl h1 h2
end J6
theorem shr1 (n : Nat) (h : n < 2147483648) : iI (n : Int) >>> (iI 1 &&& 31) = iI ((n / 2 : Nat) : Int) := by
  rw [iI_nat, iI_nat]
  have k := pk_shrN (n := n) (by omega) (iI 1 &&& 31) 1 (by decide)
  rw [Nat.pow_one] at k
  exact k
theorem upH_upH {α : Type} (h : Nat → Option α) (a : Nat) (c c' : α) : upH (upH h a c) a c' = upH h a c' := by
  funext b
  unfold upH
  split <;> rfl
theorem upH_same {α : Type} {h : Nat → Option α} {a : Nat} {c : α} (ha : h a = some c) : upH h a c = h := by
  funext b
  unfold upH
  split
  · rename_i e; rw [e, ha]
  · rfl
theorem upH3 {α : Type} (h : Nat → Option α) {a q : Nat} (X Y Y' : α) (hne : q ≠ a) : upH (upH (upH h a Y) q X) a Y' = upH (upH h q X) a Y' := by
  funext b
  unfold upH
  (repeat' split) <;> simp_all
theorem upH4 {α : Type} (h : Nat → Option α) {a q : Nat} (X X' Y Y' : α) (hne : q ≠ a) : upH (upH (upH (upH h q X) a Y) q X') a Y' = upH (upH h q X') a Y' := by
  funext b
  unfold upH
  (repeat' split) <;> simp_all
/-- y is an element of the class C: an object of ours that is no list, or one that the statics hold -/
def EL (Γ : GG) (C : String) (h : AH) (y : Nat) : Prop := (∃ (ci : Nat) (fs : List Value), h y = some (aO ci fs) ∧ ci ≠ 2 ∧ vwCl[ci]?.map (fun q => q.1) = some C) ∨ ∀ (s : State) (H : Heap), Γ.2.2 s H → isC0 s H C y
theorem EL.rc {Γ : GG} {A : Nat → Prop} {C : String} {h : AH} {y : Nat} (q : EL Γ C h y) : RC Γ A (Rep1 Γ A) h y C := by
  rcases q with ⟨ci, fs, h1, -, h2⟩ | q
  · exact RC.of1 h1 h2
  · exact fun s H hK _ => q s H hK.2.1
theorem EL.upd {Γ : GG} {C : String} {h : AH} {y a : Nat} {c' : AC} (q : EL Γ C h y) (ha : ∀ ci fs, ci ≠ 2 → h a ≠ some (aO ci fs)) : EL Γ C (upH h a c') y := by
  rcases q with ⟨ci, fs, h1, h2, h3⟩ | q
  · refine Or.inl ⟨ci, fs, ?_, h2, h3⟩
    rw [upH_ne (fun e => ha ci fs h2 (by rw [← e]; exact h1))]
    exact h1
  · exact Or.inr q
/-- the statics and tables that lists ask -/
def KE (Γ : GG) (A : Nat → Prop) (K : Nat → Nat) : Prop := AL Γ A ∧ (∀ (s : State) (H : Heap), Γ.2.2 s H → va_Z RJ2 "DEFAULTCAPACITY_EMPTY_ELEMENTDATA" "[Ljava/lang/Object;" (.ref (K 0)) A s H) ∧ (∀ (s : State) (H : Heap), Γ.2.2 s H → va_T (.object "java/lang/Object") (K 0) 0 (fun _ => .null) A s H) ∧ (∀ (s : State) (H : Heap), Γ.2.2 s H → va_AO "java/lang/Object" s) ∧ ∀ (s : State) (H : Heap), Γ.2.2 s H → va_Mi "[Ljava/lang/Object;" (K 1) s ∧ va_Dc s
theorem nar_R (C : String) (r : Option Nat) : narrow (.object C) (va_rf r) = va_rf r := by cases r <;> rfl
theorem fit_R (C : String) (r : Option Nat) : fits (.object C) (va_rf r) = true := by cases r <;> rfl
theorem lw_F {own : String} {idx : Nat} {C : String} {x y : MethodName} {b : ByteArray} {L : Nat} {r : Option FieldType} (h1 : Cond.methodLink own idx x ∈ lw_all) (h2 : Cond.selects C x y ∈ lw_all) (h3 : Cond.instanceMethod y ∈ lw_all) (h4 : Cond.initialized y.cls ∈ lw_all) (h5 : Cond.code y b L r ∈ lw_all) : GoodIn lw_all (va_wsF own idx C x y (ws_ y b L r)) := by
  refine lw_app ?_ (lw_meth h5)
  intro w hw
  simp only [List.mem_cons, List.not_mem_nil, or_false] at hw
  rcases hw with e | e | e | e
  · rw [e]; exact h1
  · rw [e]; exact h2
  · rw [e]; exact h3
  · rw [e]; exact h4
/-! lists as one cell -/
abbrev KK : Type := Nat → Nat
abbrev AL2 : Type := Nat → Option (AC ⊕ List Nat)
abbrev pO (ci : Nat) (fs : List Value) : AC ⊕ List Nat := .inl (aO ci fs)
abbrev pA (t n : Nat) (f : Nat → Int) : AC ⊕ List Nat := .inl (aA t n f)
abbrev pL (xs : List Nat) : AC ⊕ List Nat := .inr xs
def pln (c : AC) : Prop := match c with
  | .inl q => q.1 ≠ 2 ∨ q.2 = [IV 0, .null, IV 0]
  | .inr (.inl _) => True
  | .inr (.inr _) => False
def LC (K : KK) (h : AH) (a : Nat) (xs : List Nat) : Prop := ∃ (m : Int) (b n : Nat) (f : Nat → Option Nat), h a = some (aO 2 [IV m, .ref b, IV xs.length]) ∧ xs.length ≤ n ∧ (∀ i x, xs[i]? = some x → f i = some x) ∧ ((1 ≤ n ∧ h b = some (aR a n f)) ∨ (b = K 0 ∧ n = 0))
def LO (K : KK) (h : AH) (a : Nat) (c : AC ⊕ List Nat) : Prop := match c with
  | .inl c => h a = some c ∧ pln c
  | .inr xs => LC K h a xs
def Lay (K : KK) (h2 : AL2) (h : AH) : Prop := ∀ a c, h2 a = some c → LO K h a c
def Rep2 (Γ : GG) (A : Nat → Prop) (K : KK) (h2 : AL2) (H : Heap) : Prop := ∃ h : AH, Rep1 Γ A h H ∧ Lay K h2 h
theorem LO.has {K : KK} {h : AH} {a : Nat} {c : AC ⊕ List Nat} (q : LO K h a c) : ∃ c1, h a = some c1 ∧ ∀ o n f, c1 ≠ aR o n f := by
  rcases c with c | xs
  · refine ⟨c, q.1, fun o n f e => ?_⟩
    have := q.2
    rw [e] at this
    exact this
  · obtain ⟨m, b, n, f, h1, -⟩ := q
    exact ⟨_, h1, fun o n f e => by cases e⟩
theorem Lay.fresh {K : KK} {h2 : AL2} {h : AH} (hL : Lay K h2 h) {a : Nat} (ha : h a = none) : h2 a = none := by
  cases e : h2 a with
  | none => rfl
  | some c =>
    obtain ⟨c1, h1, -⟩ := (hL a c e).has
    rw [ha] at h1
    cases h1
/-- a cell of which nothing else is a part is written -/
theorem LO.keep {K : KK} {h h' : AH} {a : Nat} {c : AC ⊕ List Nat} (q : LO K h a c) (hh : ∀ b c1, h b = some c1 → (b = a ∨ ∃ n f, c1 = aR a n f) → h' b = some c1) : LO K h' a c := by
  rcases c with c | xs
  · exact ⟨hh a c q.1 (Or.inl rfl), q.2⟩
  · obtain ⟨m, b, n, f, h1, h2, h3, h4⟩ := q
    exact ⟨m, b, n, f, hh a _ h1 (Or.inl rfl), h2, h3, h4.elim (fun z => Or.inl ⟨z.1, hh b _ z.2 (Or.inr ⟨n, f, rfl⟩)⟩) Or.inr⟩
theorem Lay.set {K : KK} {h2 : AL2} {h : AH} (hL : Lay K h2 h) {a : Nat} {c0 c : AC} (ha : h2 a = some (.inl c0)) (hp : pln c) : Lay K (upH h2 a (.inl c)) (upH h a c) := by
  intro b c' hb
  have h0 := hL a _ ha
  by_cases e : b = a
  · subst e
    rw [upH_self] at hb
    cases hb
    exact ⟨upH_self _ _ _, hp⟩
  · rw [upH_ne e] at hb
    refine (hL b c' hb).keep fun z c1 hz hor => ?_
    rcases hor with rfl | ⟨n, f, rfl⟩
    · rw [upH_ne e]; exact hz
    · rw [upH_ne (fun e2 => ?_)]
      · exact hz
      · subst e2
        have h5 := h0.1.symm.trans hz
        cases h5
        exact h0.2
theorem Lay.push {K : KK} {h2 : AL2} {h : AH} (hL : Lay K h2 h) {a : Nat} {c : AC} (ha : h a = none) (hp : pln c) : Lay K (upH h2 a (.inl c)) (upH h a c) := by
  intro b c' hb
  by_cases e : b = a
  · subst e
    rw [upH_self] at hb
    cases hb
    exact ⟨upH_self _ _ _, hp⟩
  · rw [upH_ne e] at hb
    exact (hL b c' hb).keep fun z c1 hz _ => upH_old hz ha
theorem Lay.mono {K : KK} {h2 h2' : AL2} {h : AH} (hL : Lay K h2 h) (hs : ∀ (a : Nat) (c : AC ⊕ List Nat), h2' a = some c → h2 a = some c) : Lay K h2' h := fun a c e => hL a c (hs a c e)
/-- a list's cells change: its object, its array -/
theorem Lay.list {K : KK} {h2 : AL2} {h h' : AH} (hL : Lay K h2 h) {a : Nat} {c0 : AC ⊕ List Nat} {ys : List Nat} (ha : h2 a = some c0) (hn : LC K h' a ys) (hq : ∀ b c1, h b = some c1 → b ≠ a → (∀ n f, c1 ≠ aR a n f) → h' b = some c1) : Lay K (upH h2 a (.inr ys)) h' := by
  intro b c' hb
  by_cases e : b = a
  · subst e
    rw [upH_self] at hb
    cases hb
    exact hn
  · rw [upH_ne e] at hb
    refine (hL b c' hb).keep fun z c1 hz hor => ?_
    rcases hor with rfl | ⟨n, f, rfl⟩
    · refine hq z c1 hz e fun n f e2 => ?_
      obtain ⟨c2, h3, h4⟩ := (hL z c' hb).has
      exact h4 _ _ _ ((Option.some.inj (h3.symm.trans hz)).trans e2)
    · refine hq z _ hz (fun e2 => ?_) fun n' f' e2 => ?_
      · subst e2
        obtain ⟨c2, h3, h4⟩ := (hL z _ ha).has
        exact h4 _ _ _ (Option.some.inj (h3.symm.trans hz))
      · cases e2
        exact e rfl
theorem RG.of2 {Γ : GG} {A : Nat → Prop} {K : KK} : RG (Rep2 Γ A K) := fun x H H1 ⟨h, hR, hL⟩ hz hq => ⟨h, RG.of1 h H H1 hR hz hq, hL⟩
theorem RC.of2 {Γ : GG} {A : Nat → Prop} {K : KK} {h : AL2} {b ci : Nat} {fs : List Value} {C : String} (hb : h b = some (pO ci fs)) (hC : vwCl[ci]?.map (fun q => q.1) = some C) : RC Γ A (Rep2 Γ A K) h b C := fun s H hK ⟨h1, hR, hL⟩ => jw_recv hK.1 hC (hR b _ (hL b _ hb).1).2
theorem RC.ofL {Γ : GG} {A : Nat → Prop} {K : KK} {h : AL2} {b : Nat} {xs : List Nat} (hb : h b = some (pL xs)) : RC Γ A (Rep2 Γ A K) h b RJ2 := fun s H hK ⟨h1, hR, hL⟩ => by
  obtain ⟨m, b1, n, f, e1, -⟩ := hL b _ hb
  exact jw_recv (ci := 2) hK.1 rfl (hR b _ e1).2
/-- a contract over another picture -/
theorem Ct.lift {S S' : Type} {Γ : GG} {A : Nat → Prop} {Rep : S → Heap → Prop} {Rep' : S' → Heap → Prop} {l : Launch} {y : MethodName} {ws : List Cond} {d mc ms : Nat} {as : List Value} {x' : S'} {QP' : Option Value → S' → Prop} {XP' : String → S' → Prop}
    (hx : ∀ (s : State) (H : Heap), GK Γ A s H → Rep' x' H → ∃ (x : S) (QP : Option Value → S → Prop) (XP : String → S → Prop), Rep x H ∧ Ct Γ A Rep l y ws d mc ms as x QP XP ∧ (∀ v z, QP v z → ∀ H1, Rep z H1 → ∃ z', QP' v z' ∧ Rep' z' H1) ∧ ∀ E z, XP E z → ∀ H1, Rep z H1 → ∃ z', XP' E z' ∧ Rep' z' H1) : Ct Γ A Rep' l y ws d mc ms as x' QP' XP' := by
  intro p e ha hf hc s m args below h1 h2 h3 h4
  obtain ⟨x, QP, XP, q1, q2, q3, q4⟩ := hx s s.heap h3.2.1 h3.2.2
  obtain ⟨n, o, r1, r2, r3, r4⟩ := q2 p e ha hf hc s m args below h1 h2 ⟨h3.1, h3.2.1, q1⟩ h4
  refine ⟨n, o, r1, r2, r3, ?_⟩
  rcases r4 with ⟨⟨⟨v, z, g1, g2, g3⟩, g4⟩, g5⟩ | ⟨q, g0, E, ce, L, ⟨⟨z, g2, g3⟩, g4⟩, g5⟩
  · obtain ⟨z', k1, k2⟩ := q3 v z g2 _ g3
    exact Or.inl ⟨⟨⟨v, z', g1, k1, k2⟩, g4⟩, g5⟩
  · obtain ⟨z', k1, k2⟩ := q4 E z g2 _ g3
    exact Or.inr ⟨q, g0, E, ce, L, ⟨⟨z', k1, k2⟩, g4⟩, g5⟩
end FR6
