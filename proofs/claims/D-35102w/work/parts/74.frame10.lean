set_option maxRecDepth 100000
section FR10
theorem roomMono {s : State} {pl : Platform} {r r' : Room} (hf : r.frames ≤ r'.frames) (hl : r.locals ≤ r'.locals) (hc : r.cells ≤ r'.cells) (hs : r.slots ≤ r'.slots) (h : s.hasRoom pl r' = true) : s.hasRoom pl r = true := by
  simp only [State.hasRoom, Bool.and_eq_true, decide_eq_true_eq] at h ⊢
  obtain ⟨⟨⟨⟨y, a, b, c, d, e⟩, f⟩, g⟩, i⟩ := h
  exact ⟨⟨⟨⟨by omega, by omega, by omega, by omega, by omega, e⟩, by omega⟩, by omega⟩, i⟩
theorem W.less {p : Program} {l : Launch} {e : Env} {R R' : Room} {s : State} {m : MethodId} {args : Array Value} {below : List Frame} {meth : Method} {c : Code} {H : Heap} {locs : List Loc} {cells slots : Nat} {Q : State → Prop} {g : JFrame} (hf : R.frames ≤ R'.frames) (hl : R.locals ≤ R'.locals) (hc : R.cells ≤ R'.cells) (hs : R.slots ≤ R'.slots) (k : W p l e R s m args below meth c H locs cells slots Q g) : W p l e R' s m args below meth c H locs cells slots Q g :=
  fun T hT X => k T hT { X with room := roomMono hf hl hc hs X.room }
/-- the law's end out of its judgement -/
theorem J.law {S : Type} {Γ : GG} {A : Nat → Prop} {Rep : S → Heap → Prop} {l : Launch} {p : Program} {e : Env} {s : State} {m : MethodId} {below : List Frame} {meth : Method} {c : Code} {b d : Nat} {nm : String} {lo : List (Option Value)} {x : S} {QP : Option Value → S → Prop} (hd : d ≤ 100)
    (kk : J Γ A Rep l RX0 nm code 7 ret [] d 603072 7170154 QP X0 603072 7170154 x 0 lo []) (hQ : ∀ v x, QP v x → v = some (.int 1)) (hA : ∀ q, A q → s.heap.size ≤ q) (F : JF Γ A RX0 nm code 7 ret [] p s m #[Value.ref b] meth c) (hR : Rep x s.heap) (hlo : lo = [some (.ref b), none, none, none, none, none, none]) : W p l e room_1 s m #[Value.ref b] below meth c s.heap [] 0 0 (fun t => ∃ o, t.status = .running ∧ Ended t below o ∧ (o = .returned (some (.int 1)) ∧ Framed s o t [] 603072 7170154)) (entryFrame m ([Value.ref b] : List Value).toArray 7) := by
  have h9 := kk p e s m #[Value.ref b] below meth c s.heap [] _ 0 0 F hR va_S.rf (jl_entry (vs := [Value.ref b]) (List.forall_mem_cons.mpr ⟨rfl, fun _ h => absurd h List.not_mem_nil⟩) (Nat.le_of_ble_eq_true rfl) hlo) (by omega) (by omega)
  rw [lg_entry_eq]
  intro T hT X
  obtain ⟨t, h1, o, h2, h3, h4⟩ := W.less (R := rmOf d 603072 7170154) (R' := room_1) (by show d ≤ 8192; omega) (by show 100 * d ≤ 104096; omega) (Nat.le_refl _) (Nat.le_refl _) h9 T hT X
  refine ⟨t, h1, o, h2, h3, ?_⟩
  rcases h4 with ⟨⟨⟨v, z, e1, e2, -⟩, -⟩, L, g5, g6⟩ | ⟨q, g9, E, ce, L, ⟨⟨z, g2, -⟩, -⟩, -⟩
  · rw [hQ _ _ e2] at e1
    refine ⟨e1, g5.1, g5.2.1, ?_⟩
    exact State.sameButNew.drop_fresh (L := []) (J := L) g5.2.2 (fun q hq => hA _ (g6 q hq))
  · exact g2.elim
section J10
variable {S : Type} {Γ : GG} {A : Nat → Prop} {Rep : S → Heap → Prop} {l : Launch} {own nm : String} {cc : ByteArray} {nL : Nat} {ret : Option FieldType} {hh : List (Nat × Nat × Nat × Nat)} {d mc ms : Nat} {QP : Option Value → S → Prop} {XP : String → S → Prop} {cl sl : Nat} {x : S} {pc : Nat} {lo : List (Option Value)} {st : List Value}
theorem j_lcmpE {v : Int64} (hdg : decode cc pc = .ok (.lcmp, 1)) (kk : J Γ A Rep l own nm cc nL ret hh d mc ms QP XP cl sl x (pc + 1) lo (IV 0 :: st)) : J Γ A Rep l own nm cc nL ret hh d mc ms QP XP cl sl x pc lo (.long v :: .long v :: st) := by
  intro p e s m args below meth c H locs ls k n F hR hS hl h1 h2
  intro T hT X
  obtain ⟨t, a, b⟩ := kk p e s m args below meth c H locs ls k n F hR hS hl h1 h2 T hT X
  refine ⟨t, ?_, b⟩
  have hexec := F.1
  have hb := F.2.1
  have e0 : (if v > v then (1 : Int32) else if v == v then 0 else -1) = iI 0 := by
    rw [if_neg (by simp), if_pos (by simp)]; rfl
  jvm_step X.here [X.here.top, hexec, hb, hdg]
  exact a
theorem j_tswIn {dflt lo0 hi : Int} {offs : Array Int} {len : Nat} {a off : Int} {tgt : Nat} (hdg : decode cc pc = .ok (.tableswitch dflt lo0 hi offs, len)) (ha : RR a) (h1 : lo0 ≤ a) (h2 : a ≤ hi) (ho : offs[(a - lo0).toNat]? = some off) (ht : (pc : Int) + off = (tgt : Int)) (kk : J Γ A Rep l own nm cc nL ret hh d mc ms QP XP cl sl x tgt lo st) : J Γ A Rep l own nm cc nL ret hh d mc ms QP XP cl sl x pc lo (IV a :: st) := by
  intro p e s m args below meth c H locs ls k n F hR hS hl h3 h4
  have e1 : (iI a).toInt = a := iI_toInt ha
  exact lv_tableIn F.1 F.2.1 hdg (by rw [e1]; omega) (by rw [e1]; omega) (by rw [e1]; exact ho) ht (kk p e s m args below meth c H locs ls k n F hR hS hl h3 h4)
theorem j_tswOut {dflt lo0 hi : Int} {offs : Array Int} {len : Nat} {a : Int} {tgt : Nat} (hdg : decode cc pc = .ok (.tableswitch dflt lo0 hi offs, len)) (ha : RR a) (h1 : a < lo0 ∨ hi < a) (ht : (pc : Int) + dflt = (tgt : Int)) (kk : J Γ A Rep l own nm cc nL ret hh d mc ms QP XP cl sl x tgt lo st) : J Γ A Rep l own nm cc nL ret hh d mc ms QP XP cl sl x pc lo (IV a :: st) := by
  intro p e s m args below meth c H locs ls k n F hR hS hl h3 h4
  have e1 : (iI a).toInt = a := iI_toInt ha
  exact lv_tableOut F.1 F.2.1 hdg (by rw [e1]; exact h1) ht (kk p e s m args below meth c H locs ls k n F hR hS hl h3 h4)
/-- the script -/
theorem j_sld {b L : Nat} {xs : Nat → Int32} {i : Int} (hX : ∀ (s : State) (H : Heap), Γ.2.2 s H → va_X b L xs s H) (hbA : ¬ A b) (hL : L < 2147483648) (hi : 0 ≤ i ∧ i < (L : Int)) (hdg : decode cc pc = .ok (.iaload, 1)) (kk : J Γ A Rep l own nm cc nL ret hh d mc ms QP XP cl sl x (pc + 1) lo (IV (xs i.toNat).toInt :: st)) : J Γ A Rep l own nm cc nL ret hh d mc ms QP XP cl sl x pc lo (IV i :: .ref b :: st) := by
  intro p e s m args below meth c H locs ls k n F hR hS hl h1 h2
  have hXs := hX s s.heap F.2.2.2.2.2.2.2.2.1.2.1
  have hbl : b < s.heap.size := by obtain ⟨scr, g, -⟩ := hXs; exact (Array.getElem?_eq_some_iff.mp g).1
  refine va_sld F.1 F.2.1 hXs hbl hbA hS (iI_in hi.1 hi.2 hL) hdg ?_
  rw [iI_clamp ⟨by omega, by omega⟩]
  have h9 := kk p e s m args below meth c H locs ls k n F hR hS hl h1 h2
  have e1 : IV (xs i.toNat).toInt = .int (xs i.toNat) := by show Value.int (Int32.ofInt _) = _; rw [Int32.ofInt_toInt]
  rw [e1] at h9
  exact h9
theorem j_slen {b L : Nat} {xs : Nat → Int32} (hX : ∀ (s : State) (H : Heap), Γ.2.2 s H → va_X b L xs s H) (hbA : ¬ A b) (hdg : decode cc pc = .ok (.arraylength, 1)) (kk : J Γ A Rep l own nm cc nL ret hh d mc ms QP XP cl sl x (pc + 1) lo (IV (L : Int) :: st)) : J Γ A Rep l own nm cc nL ret hh d mc ms QP XP cl sl x pc lo (.ref b :: st) := by
  intro p e s m args below meth c H locs ls k n F hR hS hl h1 h2
  have hXs := hX s s.heap F.2.2.2.2.2.2.2.2.1.2.1
  have hbl : b < s.heap.size := by obtain ⟨scr, g, -⟩ := hXs; exact (Array.getElem?_eq_some_iff.mp g).1
  exact va_slen F.1 F.2.1 hXs hbl hbA hS hdg (kk p e s m args below meth c H locs ls k n F hR hS hl h1 h2)
/-- a callee with handlers, that lets nothing out -/
theorem Ct.met {y : MethodName} {ws : List Cond} {d mc ms : Nat} {as : List Value} {QP' : Option Value → S → Prop} (h : Ct Γ A Rep l y ws d mc ms as x QP' X0) : Met l y ws (rmOf d mc ms) (PD Γ A Rep as x) (QD Rep QP' A) mc ms A := by
  intro p e ha hf hc s m args below h1 h2 h3 h4
  obtain ⟨n, o, r1, r2, r3, r4⟩ := h p e ha hf hc s m args below h1 h2 h3 h4
  refine ⟨n, o, r1, r2, r3, ?_⟩
  rcases r4 with g | ⟨q, g9, E, ce, L, ⟨⟨z, g2, -⟩, -⟩, -⟩
  · exact g
  · exact g2.elim
theorem j_callSW {QP' : Option Value → S → Prop} {y : MethodName} {bytes : ByteArray} {maxL d' mc' ms' idx : Nat} {rt : Option FieldType} {hh' : List (Nat × Nat × Nat × Nat)} {As rest : List Value} (hM : Ct Γ A Rep l y (wsW_ y bytes maxL rt hh') d' mc' ms' As x QP' X0) (hG : GoodIn lw_all (va_wsS own idx y (wsW_ y bytes maxL rt hh'))) (hm : MD y As.length) (hd : d' + 1 ≤ d) (hL : maxL ≤ 80) (hst : st = As.reverse ++ rest) (hrest : (rest.map fun v => v.category).sum ≤ 8) (hdg : decode cc pc = .ok (.invokestatic idx, 3))
    (kk : ∀ (v : Option Value) (x' : S), QP' v x' → J Γ A Rep l own nm cc nL ret hh d mc ms QP XP cl sl x' (pc + 3) lo (v.toList ++ rest)) : J Γ A Rep l own nm cc nL ret hh d mc ms QP XP (cl + mc') (sl + ms') x pc lo st := by
  intro p e s m args below meth c H locs ls k n F hR hS hl h1 h2
  subst hst
  have hts := F.2.2.2.2.2.2.1
  have hK := F.2.2.2.2.2.2.2.2.1
  have hrun := vx_runSW (p := p) (l := l) (e := e) (R := rmOf d mc ms) (s := s) (m := m) (args := args) (below := below) (meth := meth) (c := c) (H := H) (locs := locs) (cells := k) (slots := n) (As := As) (rest := rest) (g := F0 m pc ls (As.reverse ++ rest)) (own := own) (index := idx) ⟨F.1, F.2.1, F.2.2.1, F.2.2.2.2.2.1, hts⟩ hM.met (vx_cwSW As.length hts hG rfl rfl rfl hm ⟨by show d' + 1 ≤ d; exact hd, by show 8 + (maxL + 11) + 100 * d' ≤ 100 * d; omega⟩) ⟨PD.blind, fun U hU hW => ⟨rfl, GK.warm hW (by rw [hU]; exact GK.at hS hK), by rw [hU]; exact hR⟩⟩ rfl rfl (hl.1) rfl (lv_room hrest) hdg ⟨by show k + mc' ≤ mc; omega, by show n + ms' ≤ ms; omega⟩
  have hrun2 : vx_Run p l e (rmOf d mc ms) s m args below meth c H locs k n mc' ms' (F0 m pc ls (As.reverse ++ rest)) rest (QD Rep QP' A As.toArray) (XD Rep (X0 (S := S)) A) A := fun T hT X => Or.inl (hrun T hT X)
  exact jw_back hrun2 hS (fun q h => h) (fun v x' H1 locs1 hq hR1 z1 o1 hS1 => kk v x' hq p e s m args below meth c H1 locs1 ls (k + mc') (n + ms') F hR1 hS1 hl (by omega) (by omega)) (fun E ce q9 x' H1 locs1 hq => hq.elim)
end J10
theorem and63 (v : Int32) : 0 ≤ (v &&& 63).toInt ∧ (v &&& 63).toInt ≤ 63 := by
  have h : (v &&& 63).toBitVec.toNat ≤ 63 := by rw [Int32.toBitVec_and, BitVec.toNat_and]; exact Nat.and_le_right
  have h2 : (v &&& 63).toInt = ((v &&& 63).toBitVec.toNat : Int) := BitVec.toInt_eq_toNat_of_lt (by omega)
  rw [h2]
  omega
theorem and63I (v : Int32) : iI v.toInt &&& iI 63 = iI (v &&& 63).toInt := by
  show Int32.ofInt _ &&& Int32.ofInt 63 = Int32.ofInt _
  rw [Int32.ofInt_toInt, Int32.ofInt_toInt]
  rfl
end FR10
