set_option maxRecDepth 100000
section J8
variable {S : Type} {Γ : GG} {A : Nat → Prop} {Rep : S → Heap → Prop} {l : Launch} {own nm : String} {cc : ByteArray} {nL : Nat} {ret : Option FieldType} {hh : List (Nat × Nat × Nat × Nat)} {d mc ms : Nat} {QP : Option Value → S → Prop} {XP : String → S → Prop} {cl sl : Nat} {x : S} {pc : Nat} {lo : List (Option Value)} {st : List Value}
/-- an element of a static array of references -/
theorem j_aaldT {C : String} {t N : Nat} {f : Nat → Value} {i : Int} {v : Value} (hE : ∀ (s : State) (H : Heap), Γ.2.2 s H → va_T (.object C) t N f A s H) (hN : N < 2147483648) (hi : 0 ≤ i ∧ i < (N : Int)) (hv : f i.toNat = v) (hdg : decode cc pc = .ok (.aaload, 1)) (kk : J Γ A Rep l own nm cc nL ret hh d mc ms QP XP cl sl x (pc + 1) lo (v :: st)) : J Γ A Rep l own nm cc nL ret hh d mc ms QP XP cl sl x pc lo (IV i :: .ref t :: st) := by
  intro p e s m args below meth c H locs ls k n F hR hS hl h1 h2
  exact vb_tq F.1 F.2.1 (hE s s.heap F.2.2.2.2.2.2.2.2.1.2.1) hS (iI_in hi.1 hi.2 hN) (by rw [iI_clamp ⟨by omega, by omega⟩]; exact hv) hdg (kk p e s m args below meth c H locs ls k n F hR hS hl h1 h2)
/-- a field of an object that the statics hold -/
theorem j_getX {o9 n9 d9 ref : String} {N i9 idx : Nat} {v : Nat → Value} {ad : Nat → Nat} (hE : ∀ (s : State) (H : Heap), Γ.2.2 s H → va_Ef N o9 n9 d9 v ad A s H) (hi : i9 < N) (hq : Cond.fieldLink own idx ref n9 d9 ∈ lw_all) (hsame : ref = o9 ∨ Cond.sameField ref o9 n9 d9 ∈ lw_all) (hdg : decode cc pc = .ok (.getfield idx, 3)) (kk : J Γ A Rep l own nm cc nL ret hh d mc ms QP XP cl sl x (pc + 3) lo (v i9 :: st)) : J Γ A Rep l own nm cc nL ret hh d mc ms QP XP cl sl x pc lo (.ref (ad i9) :: st) := by
  intro p e s m args below meth c H locs ls k n F hR hS hl h1 h2
  have hs : ∀ y, s.fieldFound? o9 n9 d9 = some y → s.fieldFound? ref n9 d9 = some y := fun y hy => by
    rcases hsame with e1 | hs
    · rw [e1]; exact hy
    · exact u_same (F.2.2.2.2.2.2.1 _ hs) y hy
  exact va_getX F.1 F.2.1 (hE s s.heap F.2.2.2.2.2.2.2.2.1.2.1) hi hS F.2.2.2.2.2.1 (F.2.2.2.2.2.2.1 _ hq) hs hdg (kk p e s m args below meth c H locs ls k n F hR hS hl h1 h2)
theorem RC.ofO {C : String} {t : Nat} (hE : ∀ (s : State) (H : Heap), Γ.2.2 s H → va_O C t A s H) : RC Γ A Rep x t C := fun s H hK _ => by
  obtain ⟨cell, h1, h2, h3, -⟩ := hE s H hK.2.1
  exact ⟨cell, h1, h2, h3⟩
/-- a cast of an object that the statics hold, to its own class -/
theorem j_castO {C : String} {t idx : Nat} (hE : ∀ (s : State) (H : Heap), Γ.2.2 s H → va_O C t A s H) (hC : ∀ (s : State) (H : Heap), Γ.2.2 s H → ∃ cC, ClassAt s C cC) (hq : Cond.classLink own idx C ∈ lw_all) (hdg : decode cc pc = .ok (.checkcast idx, 3)) (kk : J Γ A Rep l own nm cc nL ret hh d mc ms QP XP cl sl x (pc + 3) lo (.ref t :: st)) : J Γ A Rep l own nm cc nL ret hh d mc ms QP XP cl sl x pc lo (.ref t :: st) := by
  intro p e s m args below meth c H locs ls k n F hR hS hl h1 h2
  have hK := F.2.2.2.2.2.2.2.2.1
  obtain ⟨cC, hcC⟩ := hC s s.heap hK.2.1
  obtain ⟨cell, g1, g2, g3, -⟩ := hE s H (GK.at hS hK).2.1
  exact va_castS F.1 F.2.1 F.2.2.2.2.2.1 (F.2.2.2.2.2.2.1 _ hq) hcC ⟨cell, g1, g2, g3⟩ hdg (kk p e s m args below meth c H locs ls k n F hR hS hl h1 h2)
end J8
/-- the boxed small ints -/
def BE (Γ : GG) (A : Nat → Prop) (K : KK) : Prop := (∀ (s : State) (H : Heap), Γ.2.2 s H → va_Z "java/lang/Integer$IntegerCache" "high" "I" (IV 127) A s H) ∧ (∀ (s : State) (H : Heap), Γ.2.2 s H → va_Z "java/lang/Integer$IntegerCache" "cache" "[Ljava/lang/Integer;" (.ref (K 2)) A s H) ∧ (∀ (s : State) (H : Heap), Γ.2.2 s H → va_T (.object "java/lang/Integer") (K 2) 256 (fun k => .ref (K (100 + k))) A s H) ∧ (∀ (s : State) (H : Heap), Γ.2.2 s H → vb_C (fun k => K (100 + k)) A s H) ∧ (∀ (s : State) (H : Heap), Γ.2.2 s H → ∃ cC, ClassAt s "java/lang/Integer" cC) ∧ KO Γ "java/lang/Integer"
/-- the box of a small int -/
abbrev bx (K : KK) (v : Int) : Nat := K (100 + (v + 128).toNat)
theorem BE.el {Γ : GG} {A : Nat → Prop} {K : KK} (hbe : BE Γ A K) {v : Int} (hv : 0 ≤ v ∧ v ≤ 127) (h : AL2) : EL2 Γ "java/lang/Integer" h (bx K v) := Or.inr fun s H hE => by
  obtain ⟨cell, h1, h2, h3, -⟩ := (hbe.2.2.2.1 s H hE).1 (v + 128).toNat (by omega)
  exact ⟨cell, h1, h2, h3⟩
theorem BE.rc {S : Type} {Γ : GG} {A : Nat → Prop} {K : KK} {Rep : S → Heap → Prop} {x : S} (hbe : BE Γ A K) {v : Int} (hv : 0 ≤ v ∧ v ≤ 127) : RC Γ A Rep x (bx K v) "java/lang/Integer" := RC.ofO fun s H hE => (hbe.2.2.2.1 s H hE).1 (v + 128).toNat (by omega)

theorem pn_J17 : plainName RJ17 = true := by decide
set_option maxHeartbeats 4000000 in
theorem k_valueOf {S : Type} {Γ : GG} {A : Nat → Prop} {Rep : S → Heap → Prop} {l : Launch} (x : S) {K : KK} (hbe : BE Γ A K) (v : Int) (hv : 0 ≤ v ∧ v ≤ 127) : Ct Γ A Rep l yJ17_valueOf (ws_ yJ17_valueOf cJ17_valueOf 1 (some (.object "java/lang/Integer"))) 1 0 0 [IV v] x (qR (fun (r : Nat) (x' : S) => r = bx K v ∧ x' = x)) X0 := by
  refine Ct.ofJ (own := RJ17) (nm := "valueOf") (lo := [some (IV v)]) pn_J17 rfl rfl (List.forall_mem_cons.mpr ⟨rfl, (fun _ h => nomatch h)⟩) (Nat.le_of_ble_eq_true rfl) rfl ?_
  have hQ : ∀ (r : Nat) (x' : S), (r = bx K v ∧ x' = x) → (qR (fun (r : Nat) (x' : S) => r = bx K v ∧ x' = x)) (some (.ref r)) x' := fun r x' h => ⟨r, rfl, h⟩
  generalize (qR (fun (r : Nat) (x' : S) => r = bx K v ∧ x' = x)) = QP at hQ ⊢
  refine j_iload_n (pc := 0) dJ17_valueOf_0 rfl ?_
  refine j_bipush (pc := 1) (a := (-128)) dJ17_valueOf_1 (by decide) ?_
  refine j_icmp_lt (pc := 3) (tgt := 23) dJ17_valueOf_3 (by decide) (by omega) (by decide) (fun c_3 => ?_) (fun c_3 => ?_)
  · exact absurd c_3 (by omega)
  · refine j_iload_n (pc := 6) dJ17_valueOf_6 rfl ?_
    refine j_gets (pc := 7) hbe.1 q824 (Or.inl rfl) dJ17_valueOf_7 ?_
    refine j_icmp_gt (pc := 10) (tgt := 23) dJ17_valueOf_10 (by decide) (by omega) (by decide) (fun c_10 => ?_) (fun c_10 => ?_)
    · exact absurd c_10 (by omega)
    · refine j_gets (pc := 13) hbe.2.1 q826 (Or.inl rfl) dJ17_valueOf_13 ?_
      refine j_iload_n (pc := 16) dJ17_valueOf_16 rfl ?_
      refine j_sipush (pc := 17) (a := 128) dJ17_valueOf_17 (by decide) ?_
      refine j_iadd (pc := 20) dJ17_valueOf_20 ?_
      refine j_aaldT (pc := 21) hbe.2.2.1 (by decide) (by omega) rfl dJ17_valueOf_21 ?_
      refine j_aret (pc := 22) rfl (by first | exact Or.inl ⟨_, rfl⟩ | exact Or.inr ⟨_, rfl⟩) (hQ _ _ ?_) dJ17_valueOf_22
      exact ⟨rfl, rfl⟩

set_option maxHeartbeats 4000000 in
theorem k_intValue {S : Type} {Γ : GG} {A : Nat → Prop} {Rep : S → Heap → Prop} {l : Launch} (x : S) {K : KK} (hbe : BE Γ A K) (v : Int) (hv : 0 ≤ v ∧ v ≤ 127) : Ct Γ A Rep l yJ17_intValue (ws_ yJ17_intValue cJ17_intValue 1 (some .int)) 1 0 0 [.ref (bx K v)] x (qI (fun (r : Int) (x' : S) => r = v ∧ x' = x)) X0 := by
  refine Ct.ofJ (own := RJ17) (nm := "intValue") (lo := [some (.ref (bx K v))]) pn_J17 rfl rfl (List.forall_mem_cons.mpr ⟨rfl, (fun _ h => nomatch h)⟩) (Nat.le_of_ble_eq_true rfl) rfl ?_
  have hQ : ∀ (r : Int) (x' : S), (r = v ∧ x' = x) → (qI (fun (r : Int) (x' : S) => r = v ∧ x' = x)) (some (IV r)) x' := fun r x' h => ⟨r, rfl, h⟩
  generalize (qI (fun (r : Int) (x' : S) => r = v ∧ x' = x)) = QP at hQ ⊢
  refine j_aload_n (pc := 0) dJ17_intValue_0 rfl ?_
  refine j_getX (pc := 1) (v := fun k => .int (vb_c k)) (ad := fun k => K (100 + k)) (i9 := (v + 128).toNat) (fun s H hE => (hbe.2.2.2.1 s H hE).2) (by omega) q837 (Or.inl rfl) dJ17_intValue_1 ?_
  have e9 : (Value.int (vb_c (v + 128).toNat)) = IV v := by unfold vb_c IV; rw [← iI_nat, show (128 : Int32) = iI 128 from rfl, iI_sub]; congr 2; omega
  show J Γ A Rep l _ _ _ _ _ _ _ _ _ _ _ _ _ _ _ _ (Value.int (vb_c (v + 128).toNat) :: _)
  rw [e9]
  refine j_iret (pc := 4) rfl (hQ _ _ ?_) dJ17_intValue_4
  exact ⟨rfl, rfl⟩

