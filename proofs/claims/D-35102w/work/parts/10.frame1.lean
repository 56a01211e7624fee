/-! FRAME 1: numbers; the judgement J over an abstract state; contracts Ct; rows that touch no heap -/
set_option maxRecDepth 100000
section FR1
/-! ===== numbers: an int as an integer ===== -/
def iI (x : Int) : Int32 := Int32.ofInt x
def IV (x : Int) : Value := .int (iI x)
abbrev RR (a : Int) : Prop := -2147483648 ≤ a ∧ a < 2147483648
theorem iI_add (a b : Int) : iI a + iI b = iI (a + b) := (Int32.ofInt_add a b).symm
theorem iI_sub (a b : Int) : iI a - iI b = iI (a - b) := (Int32.ofInt_sub a b).symm
theorem iI_mul (a b : Int) : iI a * iI b = iI (a * b) := (Int32.ofInt_mul a b).symm
theorem iI_neg (a : Int) : -iI a = iI (-a) := (Int32.ofInt_neg a).symm
theorem iI_toInt {a : Int} (h : RR a) : (iI a).toInt = a := Int32.toInt_ofInt_of_le (by have := h.1; omega) (by have := h.2; omega)
theorem iI_of (x : Int32) : iI x.toInt = x := Int32.ofInt_toInt x
theorem iI_rng (x : Int32) : RR x.toInt := ⟨by have := x.le_toInt; omega, by have := x.toInt_lt; omega⟩
theorem iI_lt {a b : Int} (ha : RR a) (hb : RR b) : iI a < iI b ↔ a < b := by rw [Int32.lt_iff_toInt_lt, iI_toInt ha, iI_toInt hb]
theorem iI_le {a b : Int} (ha : RR a) (hb : RR b) : iI a ≤ iI b ↔ a ≤ b := by rw [Int32.le_iff_toInt_le, iI_toInt ha, iI_toInt hb]
theorem iI_eq {a b : Int} (ha : RR a) (hb : RR b) : iI a = iI b ↔ a = b := by rw [← Int32.toInt_inj, iI_toInt ha, iI_toInt hb]
theorem iI_0 : iI 0 = 0 := rfl
theorem iI_clamp {a : Int} (h : RR a) : (iI a).toNatClampNeg = a.toNat := Int32.toNatClampNeg_ofInt_of_le (by have := h.1; omega) (by have := h.2; omega)
theorem iI_in {a : Int} {n : Nat} (h0 : 0 ≤ a) (h1 : a < n) (hn : n < 2147483648) : vp_in (iI a) n := by
  rw [vp_in_iff, iI_toInt ⟨by omega, by omega⟩]
  exact ⟨h0, h1⟩
theorem iI_nat (n : Nat) : iI (n : Int) = Int32.ofNat n := Int32.ofInt_eq_ofNat
theorem iI_div {a b : Int} (ha : 0 ≤ a ∧ a < 2147483648) (hb : 0 < b ∧ b < 2147483648) : iI a / iI b = iI (a / b) := by
  have h : Int32.ofInt (a.tdiv b) = Int32.ofInt a / Int32.ofInt b := Int32.ofInt_tdiv (by show (-2147483648 : Int) ≤ a; omega) (by show a ≤ (2147483647 : Int); omega) (by show (-2147483648 : Int) ≤ b; omega) (by show b ≤ (2147483647 : Int); omega)
  rw [Int.tdiv_eq_ediv_of_nonneg ha.1] at h
  exact h.symm
theorem iI_rem {a b : Int} (ha : 0 ≤ a ∧ a < 2147483648) (hb : 0 < b ∧ b < 2147483648) : iI a - iI a / iI b * iI b = iI (a % b) := by
  rw [iI_div ha hb, iI_mul, iI_sub, Int.emod_def, Int.mul_comm b]
theorem iI_n0 {b : Int} (hb : 0 < b ∧ b < 2147483648) : ¬ iI b = 0 := by
  rw [← iI_0, iI_eq ⟨by omega, by omega⟩ ⟨by omega, by omega⟩]; omega
theorem IV_inj {a b : Int} (ha : RR a) (hb : RR b) (h : IV a = IV b) : a = b := by
  have h2 : iI a = iI b := by unfold IV at h; injection h
  exact (iI_eq ha hb).mp h2
/-- a truth as an int -/
def bI (c : Prop) [Decidable c] : Int := if c then 1 else 0
theorem bI_t {c : Prop} [Decidable c] (h : c) : bI c = 1 := if_pos h
theorem bI_f {c : Prop} [Decidable c] (h : ¬ c) : bI c = 0 := if_neg h
theorem bI_01 (c : Prop) [Decidable c] : bI c = 0 ∨ bI c = 1 := by unfold bI; split <;> simp
theorem nar_Z {x : Int} (h : x = 0 ∨ x = 1) : narrow .boolean (IV x) = IV x := by rcases h with rfl | rfl <;> rfl
theorem fit_Z {x : Int} (h : x = 0 ∨ x = 1) : fits .boolean (IV x) = true := by rcases h with rfl | rfl <;> rfl
/-! ===== the abstract heap ===== -/
/-- the classes whose objects the worlds hold, by number -/
def vwCl : List vw_C := [(RX1, TX1, 8), (RX2, TX2, 44), (RJ2, TJ2, 3), (RX3, TX3, 2), (RX4, TX4, 4), (RX5, TX5, 2), (RX8, TX8, 3), (RX9, TX9, 10), (RX10, TX10, 4), (RX11, TX11, 3), (RX12, TX12, 2), (RX13, TX13, 6), (RJ20, TJ20, 4), (RJ8, TJ8, 4)]
abbrev GG : Type := va_G × (Nat → ClassId) × (State → Heap → Prop)
/-- facts of the tables and the statics: they stay while what isn't in A stays -/
def EC (E : State → Heap → Prop) (A : Nat → Prop) : Prop :=
  (∀ (s U : State) (H : Heap), s.WarmedH U.vm → E s H → E U H) ∧
  (∀ (s : State) (H H1 : Heap), H.size ≤ H1.size → (∀ q : Nat, q < H.size → ¬ A q → H1[q]? = H[q]?) → E s H → E s H1)
def tyC : Nat → FieldType := fun t => match t with
  | 0 => .int
  | 1 => .boolean
  | 2 => .byte
  | 3 => .char
  | 4 => .long
  | _ => .object "java/lang/Object"
abbrev tysG (Γ : GG) : List (ClassId × FieldType) := [(Γ.2.1 0, .int), (Γ.2.1 1, .boolean), (Γ.2.1 2, .byte), (Γ.2.1 4, .long), (Γ.2.1 5, .object "java/lang/Object")]
def GK (Γ : GG) (A : Nat → Prop) (s : State) (H : Heap) : Prop := va_K Γ.1 vwCl (tysG Γ) s ∧ Γ.2.2 s H ∧ EC Γ.2.2 A
theorem GK.warm {Γ : GG} {A : Nat → Prop} {s U : State} {H : Heap} (hW : s.WarmedH U.vm) (h : GK Γ A s H) : GK Γ A U H := ⟨va_K.moved hW.alike h.1, h.2.2.1 s U H hW h.2.1, h.2.2⟩
theorem GK.kept {Γ : GG} {A : Nat → Prop} {s : State} {H H1 : Heap} (hz : H.size ≤ H1.size) (hq : ∀ q : Nat, q < H.size → ¬ A q → H1[q]? = H[q]?) (h : GK Γ A s H) : GK Γ A s H1 := ⟨h.1, h.2.2.2 s H H1 hz hq h.2.1, h.2.2⟩
theorem GK.at {Γ : GG} {A : Nat → Prop} {s : State} {H : Heap} {locs : List Loc} (hS : va_S A s.heap H locs) (h : GK Γ A s s.heap) : GK Γ A s H := h.kept hS.1 hS.2.1
/-! ===== contracts ===== -/
abbrev rmOf (d mc ms : Nat) : Room := { frames := d, cells := mc, slots := ms, locals := 100 * d }
def QD {S : Type} (Rep : S → Heap → Prop) (QP : Option Value → S → Prop) (A : Nat → Prop) : Array Value → State → Outcome → State → Prop := fun _ st o t => (∃ (v : Option Value) (x : S), o = .returned v ∧ QP v x ∧ Rep x t.heap) ∧ va_F A st t
def XD {S : Type} (Rep : S → Heap → Prop) (XP : String → S → Prop) (A : Nat → Prop) : String → State → State → Prop := fun E st t => (∃ x : S, XP E x ∧ Rep x t.heap) ∧ va_F A st t
def PD {S : Type} (Γ : GG) (A : Nat → Prop) (Rep : S → Heap → Prop) (as : List Value) (x : S) : Array Value → State → Prop := fun v U => v = as.toArray ∧ GK Γ A U U.heap ∧ Rep x U.heap
def Ct {S : Type} (Γ : GG) (A : Nat → Prop) (Rep : S → Heap → Prop) (l : Launch) (y : MethodName) (ws : List Cond) (d mc ms : Nat) (as : List Value) (x : S) (QP : Option Value → S → Prop) (XP : String → S → Prop) : Prop :=
  vx_Met l y ws (rmOf d mc ms) (PD Γ A Rep as x) (QD Rep QP A) (XD Rep XP A) mc ms A
/-- it throws nothing -/
def X0 {S : Type} : String → S → Prop := fun _ _ => False
theorem PD.blind {S : Type} {Γ : GG} {A : Nat → Prop} {Rep : S → Heap → Prop} {as : List Value} {x : S} : FrameBlind (PD Γ A Rep as x) := by
  intro a U g mk ⟨h1, h2, h3⟩
  exact ⟨h1, GK.warm (s := U) (U := U.calling g mk a) (State.WarmedH.refl U) h2, h3⟩
/-! ===== the judgement ===== -/
/-- the locals: lo's known ones are held, none of two words -/
def jl (ls : Array Slot) (nL : Nat) (lo : List (Option Value)) : Prop := ls.size = nL ∧ lv_wf ls ∧ lo.length = nL ∧ ∀ (i : Nat) (v : Value), lo[i]? = some (some v) → ls[i]? = some (.val v) ∧ v.category = 1
def jl_l (lo : List (Option Value)) : List (Nat × Value) := (List.range lo.length).filterMap (fun i => match lo[i]? with
  | some (some v) => some (i, v)
  | _ => none)
theorem jl_mem {lo : List (Option Value)} {i : Nat} {v : Value} : (i, v) ∈ jl_l lo ↔ lo[i]? = some (some v) := by
  unfold jl_l
  rw [List.mem_filterMap]
  constructor
  · rintro ⟨j, -, hj⟩
    split at hj
    · rename_i w hw
      cases hj
      exact hw
    · cases hj
  · intro h
    refine ⟨i, List.mem_range.mpr (List.getElem?_eq_some_iff.mp h).1, ?_⟩
    rw [h]
theorem jl.has {ls : Array Slot} {nL : Nat} {lo : List (Option Value)} (h : jl ls nL lo) : lv_has ls nL (jl_l lo) := ⟨h.1, h.2.1, fun q hq => (h.2.2.2 q.1 q.2 (jl_mem.mp hq)).1⟩
theorem jl.set {ls ls' : Array Slot} {nL : Nat} {lo : List (Option Value)} {i : Nat} {v : Value} (h : jl ls nL lo) (hi : i < nL) (hc : v.category = 1) (h' : lv_has ls' nL ((i, v) :: (jl_l lo).filter (fun q => !(q.1 == i) && !(q.1 + 1 == i && q.2.category == 2)))) : jl ls' nL (lo.set i (some v)) := by
  refine ⟨h'.1, h'.2.1, by rw [List.length_set]; exact h.2.2.1, fun j w hj => ?_⟩
  by_cases e : i = j
  · subst e
    have hl : i < lo.length := by rw [h.2.2.1]; exact hi
    rw [List.getElem?_set_self hl] at hj
    cases hj
    exact ⟨h'.2.2 (i, v) List.mem_cons_self, hc⟩
  · rw [List.getElem?_set_ne e] at hj
    have h1 := h.2.2.2 j w hj
    refine ⟨h'.2.2 (j, w) (List.mem_cons_of_mem _ (List.mem_filter.mpr ⟨jl_mem.mpr hj, ?_⟩)), h1.2⟩
    have n1 : (j == i) = false := beq_false_of_ne (Ne.symm e)
    have n2 : (w.category == 2) = false := by rw [h1.2]; rfl
    simp only [n1, n2, Bool.and_false, Bool.not_false, Bool.and_self]
theorem jl_args : ∀ (vs : List Value) (k : Nat), (∀ v ∈ vs, v.category = 1) → ∀ (i : Nat) (v : Value), vs[i]? = some v → (k + i, v) ∈ lv_args k vs
  | [], k, _, i, v, h => by simp at h
  | w :: vs, k, hc, i, v, h => by
    have hw : ¬ w.category = 2 := by rw [hc w List.mem_cons_self]; decide
    simp only [lv_args, if_neg hw]
    cases i with
    | zero =>
      rw [List.getElem?_cons_zero] at h
      cases h
      exact List.mem_cons_self
    | succ i =>
      rw [List.getElem?_cons_succ] at h
      refine List.mem_cons_of_mem _ ?_
      have := jl_args vs (k + 1) (fun v hv => hc v (List.mem_cons_of_mem _ hv)) i v h
      rw [show k + (i + 1) = k + 1 + i by omega]
      exact this
theorem jl_entry {vs : List Value} {n : Nat} {lo : List (Option Value)} (hc : ∀ v ∈ vs, v.category = 1) (hn : vs.length ≤ n) (hlo : lo = vs.map some ++ List.replicate (n - vs.length) none) : jl ((lg_sl vs ++ List.replicate (n - (lg_sl vs).length) Slot.unset).toArray) n lo := by
  have hlen : (lg_sl vs).length = vs.length := by
    have : ∀ ws : List Value, (∀ v ∈ ws, v.category = 1) → (lg_sl ws).length = ws.length := by
      intro ws
      induction ws with
      | nil => intro _; rfl
      | cons w ws ih =>
        intro h
        have hw : w.category = 1 := h w List.mem_cons_self
        have := ih (fun v hv => h v (List.mem_cons_of_mem _ hv))
        simp only [lg_sl, List.flatMap_cons, List.length_append, List.length_cons] at this ⊢
        rw [this]
        simp [hw]
        omega
    exact this vs hc
  obtain ⟨h1, h2, h3⟩ := lv_entry vs (n := n) (by rw [hlen]; exact hn)
  refine ⟨h1, h2, by rw [hlo]; simp; omega, fun i v h => ?_⟩
  rw [hlo] at h
  by_cases hi : i < vs.length
  · rw [List.getElem?_append_left (by simpa using hi), List.getElem?_map, List.getElem?_eq_getElem hi] at h
    simp only [Option.map_some, Option.some.injEq] at h
    have hm : vs[i]? = some v := by rw [List.getElem?_eq_getElem hi, h]
    refine ⟨h3 (i, v) ?_, hc v (List.mem_of_getElem? hm)⟩
    have := jl_args vs 0 hc i v hm
    rw [Nat.zero_add] at this
    exact this
  · rw [List.getElem?_append_right (by simpa using Nat.le_of_not_lt hi)] at h
    have := List.eq_of_mem_replicate (List.mem_of_getElem? h)
    cases this
/-- what a body knows all through -/
def JF (Γ : GG) (A : Nat → Prop) (own nm : String) (cc : ByteArray) (nL : Nat) (ret : Option FieldType) (hh : List (Nat × Nat × Nat × Nat)) (p : Program) (s : State) (m : MethodId) (args : Array Value) (meth : Method) (c : Code) : Prop :=
  p.tables.exec = Jvm.exec ∧ c.code = cc ∧ c.maxLocals = nL ∧ meth.sig.returnType = ret ∧ meth.locks = false ∧ s.vm.findClass own = some m.cls ∧ (∀ w ∈ lw_all, w.before args s = true) ∧ meth.name = nm ∧ GK Γ A s s.heap ∧ c.exceptionTable.toList = tableOf hh
def J {S : Type} (Γ : GG) (A : Nat → Prop) (Rep : S → Heap → Prop) (l : Launch) (own nm : String) (cc : ByteArray) (nL : Nat) (ret : Option FieldType) (hh : List (Nat × Nat × Nat × Nat)) (d mc ms : Nat) (QP : Option Value → S → Prop) (XP : String → S → Prop) (cl sl : Nat) (x : S) (pc : Nat) (lo : List (Option Value)) (st : List Value) : Prop :=
  ∀ (p : Program) (e : Env) (s : State) (m : MethodId) (args : Array Value) (below : List Frame) (meth : Method) (c : Code) (H : Heap) (locs : List Loc) (ls : Array Slot) (k n : Nat),
    JF Γ A own nm cc nL ret hh p s m args meth c → Rep x H → va_S A s.heap H locs → jl ls nL lo → k + cl ≤ mc → n + sl ≤ ms →
    W p l e (rmOf d mc ms) s m args below meth c H locs k n (vx_MQ below (QD Rep QP A) (XD Rep XP A) args s mc ms A) (F0 m pc ls st)
end FR1
