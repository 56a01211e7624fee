set_option maxRecDepth 100000
section ENV
/-! what holds of the tables and the statics all through -/
def eCS : List (String × String) := [("java/lang/IndexOutOfBoundsException", "java/lang/IndexOutOfBoundsException"), ("java/lang/IllegalArgumentException", "java/lang/IllegalArgumentException"), ("java/lang/IllegalStateException", "java/lang/IllegalStateException"), (RX3, "java/lang/Object"), (RX4, "java/lang/Object"), (RX5, "java/lang/Object"), (RX8, "java/lang/Object"), (RX10, "java/lang/Object"), (RX11, "java/lang/Object"), (RX12, "java/lang/Object"), ("java/lang/Integer", "java/lang/Object")]
def eDS : List MethodName := [⟨"java/lang/RuntimeException", "<init>", "()V"⟩, ⟨"java/lang/Exception", "<init>", "()V"⟩, ⟨"java/lang/Throwable", "<init>", "()V"⟩]
def eNC : List (String × String) := [("java/lang/IllegalArgumentException", "java/lang/IndexOutOfBoundsException"), ("java/lang/IllegalStateException", "java/lang/IndexOutOfBoundsException"), ("java/lang/IllegalStateException", "java/lang/IllegalArgumentException")]
def eFW : List (MethodName × MethodName) := [(⟨"java/util/List", "size", "()I"⟩, yJ2_size), (⟨"java/util/List", "isEmpty", "()Z"⟩, yJ2_isEmpty), (⟨"java/util/List", "get", "(I)Ljava/lang/Object;"⟩, yJ2_get), (⟨"java/util/List", "add", "(Ljava/lang/Object;)Z"⟩, yJ2_add), (⟨"java/util/List", "clear", "()V"⟩, yJ2_clear), (⟨"java/util/List", "indexOf", "(Ljava/lang/Object;)I"⟩, yJ2_indexOf)]
def ePM : Cond := .privateMethod ⟨"java/lang/Throwable", "fillInStackTrace", "(I)Ljava/lang/Throwable;"⟩
/-- the tables -/
def ETb (K : KK) (s : State) : Prop := (∀ q ∈ eCS, va_Nw (.castable q.1 q.2) s) ∧ (∀ x ∈ eDS, va_Nw (.declares x) s) ∧ va_Nw ePM s ∧ (∀ q ∈ eNC, va_Nc q.1 q.2 s) ∧ (∀ q ∈ eFW, va_Fw RJ2 q.1 q.2 s) ∧ va_AO "java/lang/Object" s ∧ va_Mi "[Ljava/lang/Object;" (K 1) s ∧ va_Dc s ∧ (∃ cC, ClassAt s "java/lang/Integer" cC)
/-- the nest's links -/
def ENe (s : State) : Prop := va_Nw (.methodLinkNest "BallotFoundry" 69 yX10_init "BallotFoundry") s ∧ va_Nw (.fieldLinkNest "BallotFoundry$Box" 34 "BallotFoundry" "SLIPPED" "[I" "BallotFoundry") s ∧ va_Nw (.fieldLinkNest "BallotFoundry" 281 "BallotFoundry$House" "votes" "[I" "BallotFoundry") s ∧ va_Nw (.fieldLinkNest "BallotFoundry" 284 "BallotFoundry$House" "seats" "[I" "BallotFoundry") s ∧ va_Nw (.fieldLinkNest "BallotFoundry" 289 "BallotFoundry$House" "given" "[I" "BallotFoundry") s ∧ va_Nw (.fieldLinkNest "BallotFoundry" 286 "BallotFoundry$House" "many" "I" "BallotFoundry") s ∧ va_Nw (.fieldLinkNest "BallotFoundry" 292 "BallotFoundry$House" "lots" "I" "BallotFoundry") s
/-- the heap: statics, and what they name -/
def EHp (A : Nat → Prop) (K : KK) (b LL : Nat) (xs : Nat → Int32) (s : State) (H : Heap) : Prop := va_Z RJ2 "DEFAULTCAPACITY_EMPTY_ELEMENTDATA" "[Ljava/lang/Object;" (.ref (K 0)) A s H ∧ va_T (.object "java/lang/Object") (K 0) 0 (fun _ => .null) A s H ∧
  va_Z "java/lang/Integer$IntegerCache" "high" "I" (IV 127) A s H ∧ va_Z "java/lang/Integer$IntegerCache" "cache" "[Ljava/lang/Integer;" (.ref (K 2)) A s H ∧ va_T (.object "java/lang/Integer") (K 2) 256 (fun k => .ref (K (100 + k))) A s H ∧ vb_C (fun k => K (100 + k)) A s H ∧
  va_Z "BallotFoundry" "SLIPPED" "[I" (.ref (K 3)) A s H ∧ va_T .int (K 3) 6 (fun k => IV (((k : Int) + 1) % 6)) A s H ∧
  vx_Zq Bundle.tN "UNASSIGNED_STACK" Bundle.steD A s H ∧ vx_Zq Bundle.tN "SUPPRESSED_SENTINEL" Bundle.listD A s H ∧ (va_X b LL xs s H ∧ ¬ A b)
theorem ETb.warm {K : KK} {s U : State} (hW : s.WarmedH U.vm) (h : ETb K s) : ETb K U := by
  obtain ⟨h1, h2, h3, h4, h5, h6, h7, h8, cC, h9⟩ := h
  exact ⟨fun q hq => (h1 q hq).warmC hW, fun x hx => (h2 x hx).warmD hW, (va_tabs (c := ePM) rfl (rfl : (s.setVm U.vm).vm = U.vm) (by unfold ePM; rw [Cond.privateMethod_setVm hW.alike]; exact h3)), fun q hq => (h4 q hq).moved hW.alike, fun q hq => by
    refine va_Fw.moved ?_ hW.alike (h5 q hq)
    revert q
    decide, h6.moved hW.alike, h7.moved hW.alike, h8.moved hW.alike, cC, classAt_moved hW.alike h9⟩
theorem ENe.warm {s U : State} (hW : s.WarmedH U.vm) (h : ENe s) : ENe U := ⟨h.1.warmM hW, h.2.1.warmF hW, h.2.2.1.warmF hW, h.2.2.2.1.warmF hW, h.2.2.2.2.1.warmF hW, h.2.2.2.2.2.1.warmF hW, h.2.2.2.2.2.2.warmF hW⟩
theorem EHp.warm {A : Nat → Prop} {K : KK} {b LL : Nat} {xs : Nat → Int32} {s U : State} {H : Heap} (hW : s.WarmedH U.vm) (h : EHp A K b LL xs s H) : EHp A K b LL xs U H := by
  obtain ⟨h1, h2, h3, h4, h5, h6, h7, h8, h9, h10, h11⟩ := h
  exact ⟨h1.moved hW.alike, h2.moved hW.alike, h3.moved hW.alike, h4.moved hW.alike, h5.moved hW.alike, h6.moved hW.alike, h7.moved hW.alike, h8.moved hW.alike, h9.moved hW.alike, h10.moved hW.alike, h11.1.moved hW.alike, h11.2⟩
theorem EHp.kept {A : Nat → Prop} {K : KK} {b LL : Nat} {xs : Nat → Int32} {s : State} {H H1 : Heap} (hq : ∀ q : Nat, q < H.size → ¬ A q → H1[q]? = H[q]?) (h : EHp A K b LL xs s H) : EHp A K b LL xs s H1 := by
  obtain ⟨h1, h2, h3, h4, h5, h6, h7, h8, h9, h10, h11⟩ := h
  refine ⟨h1.kept hq, h2.kept hq, h3.kept hq, h4.kept hq, h5.kept hq, h6.kept hq, h7.kept hq, h8.kept hq, h9.kept hq, h10.kept hq, h11.1.kept ?_, h11.2⟩
  obtain ⟨scr, g, -⟩ := h11.1
  exact hq b (Array.getElem?_eq_some_iff.mp g).1 h11.2
/-- all of it -/
def EE (N0 : Nat) (K : KK) (b LL : Nat) (xs : Nat → Int32) (s : State) (H : Heap) : Prop := ETb K s ∧ ENe s ∧ EHp (Af N0) K b LL xs s H
theorem EE.ec {N0 : Nat} {K : KK} {b LL : Nat} {xs : Nat → Int32} : EC (EE N0 K b LL xs) (Af N0) :=
  ⟨fun s U H hW h => ⟨h.1.warm hW, h.2.1.warm hW, h.2.2.warm hW⟩, fun s H H1 _ hq h => ⟨h.1, h.2.1, h.2.2.kept hq⟩⟩
theorem EE.wd {D : va_G} {dT : Nat → ClassId} {N0 : Nat} {K : KK} {b LL : Nat} {xs : Nat → Int32} (N : Nat) (A : Nat → Prop) (h0 : N0 ≤ N) (hN : ∀ q, N ≤ q → A q) (hA : ∀ q, A q → N0 ≤ q) : Wd (GE (D, dT, EE N0 K b LL xs) N) A K := by
  generalize hΓ : GE (D, dT, EE N0 K b LL xs) N = Γ
  have hE : ∀ (s : State) (H : Heap), Γ.2.2 s H → EE N0 K b LL xs s H ∧ N ≤ H.size := by rw [← hΓ]; exact fun s H h => h
  have cs : ∀ (i : Nat) (C T : String), eCS[i]? = some (C, T) → ∀ (s : State) (H : Heap), Γ.2.2 s H → va_Nw (.castable C T) s := fun i C T hq s H h => (hE s H h).1.1.1 _ (List.mem_of_getElem? hq)
  have fw : ∀ (i : Nat) (x y : MethodName), eFW[i]? = some (x, y) → ∀ (s : State) (H : Heap), Γ.2.2 s H → va_Fw RJ2 x y s := fun i x y hq s H h => (hE s H h).1.1.2.2.2.2.1 _ (List.mem_of_getElem? hq)
  have nc : ∀ (i : Nat) (x y : String), eNC[i]? = some (x, y) → ∀ (s : State) (H : Heap), Γ.2.2 s H → va_Nc x y s := fun i x y hq s H h => (hE s H h).1.1.2.2.2.1 _ (List.mem_of_getElem? hq)
  have ds : ∀ (i : Nat) (x : MethodName), eDS[i]? = some x → ∀ (s : State) (H : Heap), Γ.2.2 s H → va_Nw (.declares x) s := fun i x hq s H h => (hE s H h).1.1.2.1 _ (List.mem_of_getElem? hq)
  have th : ∀ (i : Nat) (C : String), eCS[i]? = some (C, C) → TH5 Γ A C := fun i C hC s H h => by
    refine ⟨fun w hw => ?_, (hE s H h).1.2.2.2.2.2.2.2.2.2.2.1.narrow hA, (hE s H h).1.2.2.2.2.2.2.2.2.2.2.2.1.narrow hA⟩
    simp only [B5, List.mem_cons, List.not_mem_nil, or_false] at hw
    rcases hw with e | e | e | e | e
    · rw [e]; exact cs i C C hC s H h
    · rw [e]; exact ds 0 _ rfl s H h
    · rw [e]; exact ds 1 _ rfl s H h
    · rw [e]; exact ds 2 _ rfl s H h
    · rw [e]; exact (hE s H h).1.1.2.2.1
  have g1 : KE Γ A K := ⟨fun s H h q hq => hN q (Nat.le_trans (hE s H h).2 hq), fun s H h => (hE s H h).1.2.2.1.narrow hA, fun s H h => (hE s H h).1.2.2.2.1.narrow hA, fun s H h => (hE s H h).1.1.2.2.2.2.2.1, fun s H h => ⟨(hE s H h).1.1.2.2.2.2.2.2.1, (hE s H h).1.1.2.2.2.2.2.2.2.1⟩⟩
  have g2 : FE Γ := ⟨fw 0 _ _ rfl, fw 1 _ _ rfl, fw 2 _ _ rfl, fw 3 _ _ rfl, fw 4 _ _ rfl, fw 5 _ _ rfl⟩
  have g3 : BE Γ A K := ⟨fun s H h => (hE s H h).1.2.2.2.2.1.narrow hA, fun s H h => (hE s H h).1.2.2.2.2.2.1.narrow hA, fun s H h => (hE s H h).1.2.2.2.2.2.2.1.narrow hA, fun s H h => (hE s H h).1.2.2.2.2.2.2.2.1.narrow hA, fun s H h => (hE s H h).1.1.2.2.2.2.2.2.2.2, cs 10 _ _ rfl⟩
  have g4 : SE Γ A K := ⟨fun s H h => (hE s H h).1.2.2.2.2.2.2.2.2.1.narrow hA, fun s H h => (hE s H h).1.2.2.2.2.2.2.2.2.2.1.narrow hA⟩
  have g5 : NE Γ := ⟨fun s H h => (hE s H h).1.2.1.1, fun s H h => (hE s H h).1.2.1.2.1, fun s H h => (hE s H h).1.2.1.2.2.1, fun s H h => (hE s H h).1.2.1.2.2.2.1, fun s H h => (hE s H h).1.2.1.2.2.2.2.1, fun s H h => (hE s H h).1.2.1.2.2.2.2.2.1, fun s H h => (hE s H h).1.2.1.2.2.2.2.2.2⟩
  exact ⟨g1, g2, th 0 _ rfl, th 1 _ rfl, th 2 _ rfl, g3, g4, g5, cs 3 _ _ rfl, cs 4 _ _ rfl, cs 5 _ _ rfl, cs 6 _ _ rfl, cs 7 _ _ rfl, cs 8 _ _ rfl, cs 9 _ _ rfl, fun s H h => ⟨cs 0 _ _ rfl s H h, cs 1 _ _ rfl s H h, cs 2 _ _ rfl s H h, nc 0 _ _ rfl s H h, nc 1 _ _ rfl s H h, nc 2 _ _ rfl s H h⟩⟩
end ENV
