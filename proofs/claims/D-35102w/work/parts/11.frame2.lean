/-! FRAME 2: a body's entry; rows that touch no heap -/
set_option maxRecDepth 100000
section FR2
/-- fewer known locals -/
def loSub : List (Option Value) → List (Option Value) → Prop
  | [], [] => True
  | a :: l, b :: m => (a = none ∨ a = b) ∧ loSub l m
  | _, _ => False
theorem loSub_len : ∀ {l m : List (Option Value)}, loSub l m → l.length = m.length
  | [], [], _ => rfl
  | _ :: l, _ :: m, h => by rw [List.length_cons, List.length_cons, loSub_len (l := l) (m := m) h.2]
  | [], _ :: _, h => h.elim
  | _ :: _, [], h => h.elim
theorem loSub_at : ∀ {l m : List (Option Value)}, loSub l m → ∀ (i : Nat) (v : Value), l[i]? = some (some v) → m[i]? = some (some v)
  | [], [], _, i, v, h => by simp at h
  | a :: l, b :: m, h, 0, v, e => by
    rw [List.getElem?_cons_zero] at e ⊢
    rcases h.1 with z | z
    · rw [z] at e; cases e
    · rw [← z]; exact e
  | _ :: l, _ :: m, h, i + 1, v, e => by
    rw [List.getElem?_cons_succ] at e ⊢
    exact loSub_at (l := l) (m := m) h.2 i v e
  | [], _ :: _, h, _, _, _ => h.elim
  | _ :: _, [], h, _, _, _ => h.elim
variable {S : Type} {Γ : GG} {A : Nat → Prop} {Rep : S → Heap → Prop} {l : Launch} {own nm : String} {cc : ByteArray} {nL : Nat} {ret : Option FieldType} {hh : List (Nat × Nat × Nat × Nat)} {d mc ms : Nat} {QP : Option Value → S → Prop} {XP : String → S → Prop} {cl sl : Nat} {x : S} {pc : Nat} {lo : List (Option Value)} {st : List Value}
theorem Ct.ofJ {y : MethodName} {as : List Value} (hy : plainName y.cls = true) (hown : y.cls = own) (hnm : y.name = nm) (hc : ∀ v ∈ as, v.category = 1) (hn : as.length ≤ nL) (hlo : lo = as.map some ++ List.replicate (nL - as.length) none)
    (k : J Γ A Rep l own nm cc nL ret [] d mc ms QP XP mc ms x 0 lo []) : Ct Γ A Rep l y (ws_ y cc nL ret) d mc ms as x QP XP := by
  subst hown; subst hnm
  refine vx_ofW (cc := cc) (maxL := nL) (ret := ret) hy rfl ?_
  intro p e s m args below meth c s₁ B hml ht hv
  obtain ⟨rfl, hK, hR⟩ := hv
  have hts := atoms_spec (ws := ws_ y cc nL ret) B.pre
  have hts : ∀ w ∈ lw_all, w.before _ s = true := fun w h => hts w (List.mem_cons_of_mem _ h)
  have hl := jl_entry hc hn hlo
  have htb : c.exceptionTable.toList = tableOf [] := List.eq_nil_iff_forall_not_mem.mpr ht
  rw [lg_entry_eq]
  exact k p e s m _ below meth c s.heap [] _ 0 0 ⟨B.exec, B.bytes, hml, B.returns, B.notSynchronized, findClass_of_methodNamed B.named, hts, (name_of_methodNamed B.named B.method).1, hK, htb⟩ hR va_S.rf hl (by omega) (by omega)
/-- .. of a method with handlers -/
theorem Ct.ofJH {y : MethodName} {as : List Value} (hy : plainName y.cls = true) (hown : y.cls = own) (hnm : y.name = nm) (hc : ∀ v ∈ as, v.category = 1) (hn : as.length ≤ nL) (hlo : lo = as.map some ++ List.replicate (nL - as.length) none)
    (k : J Γ A Rep l own nm cc nL ret hh d mc ms QP XP mc ms x 0 lo []) : Ct Γ A Rep l y (wsW_ y cc nL ret hh) d mc ms as x QP XP := by
  subst hown; subst hnm
  refine vx_ofWH (cc := cc) (maxL := nL) (ret := ret) (hh := hh) hy rfl ?_
  intro p e s m args below meth c s₁ B hml hv
  obtain ⟨rfl, hK, hR⟩ := hv
  have hts := atoms_spec (ws := wsW_ y cc nL ret hh) B.pre
  have htb : c.exceptionTable.toList = tableOf hh := vx_table (x := y) B (hts _ List.mem_cons_self)
  have hts : ∀ w ∈ lw_all, w.before _ s = true := fun w h => hts w (List.mem_cons_of_mem _ h)
  have hl := jl_entry hc hn hlo
  rw [lg_entry_eq]
  exact k p e s m _ below meth c s.heap [] _ 0 0 ⟨B.exec, B.bytes, hml, B.returns, B.notSynchronized, findClass_of_methodNamed B.named, hts, (name_of_methodNamed B.named B.method).1, hK, htb⟩ hR va_S.rf hl (by omega) (by omega)
theorem j_room {cl' sl' : Nat} (h1 : cl' ≤ cl) (h2 : sl' ≤ sl) (k : J Γ A Rep l own nm cc nL ret hh d mc ms QP XP cl' sl' x pc lo st) : J Γ A Rep l own nm cc nL ret hh d mc ms QP XP cl sl x pc lo st := by
  intro p e s m args below meth c H locs ls a b F hR hS hl e1 e2
  exact k p e s m args below meth c H locs ls a b F hR hS hl (by omega) (by omega)
/-- another name of the top int -/
theorem j_nameI {a : Int} (k : ∀ b : Int, b = a → J Γ A Rep l own nm cc nL ret hh d mc ms QP XP cl sl x pc lo (IV b :: st)) : J Γ A Rep l own nm cc nL ret hh d mc ms QP XP cl sl x pc lo (IV a :: st) := k a rfl
/-- another state, by equations -/
theorem j_eq {x' : S} {st' : List Value} (h1 : x' = x) (h2 : st' = st) (k : J Γ A Rep l own nm cc nL ret hh d mc ms QP XP cl sl x' pc lo st') : J Γ A Rep l own nm cc nL ret hh d mc ms QP XP cl sl x pc lo st := by subst h1; subst h2; exact k
theorem j_lo {lo' : List (Option Value)} (h : lo'.length = lo.length) (hs : ∀ (i : Nat) (v : Value), lo'[i]? = some (some v) → lo[i]? = some (some v)) (k : J Γ A Rep l own nm cc nL ret hh d mc ms QP XP cl sl x pc lo' st) : J Γ A Rep l own nm cc nL ret hh d mc ms QP XP cl sl x pc lo st := by
  intro p e s m args below meth c H locs ls a b F hR hS hl e1 e2
  exact k p e s m args below meth c H locs ls a b F hR hS ⟨hl.1, hl.2.1, h.trans hl.2.2.1, fun i v hv => hl.2.2.2 i v (hs i v hv)⟩ e1 e2
theorem j_sub {lo' : List (Option Value)} (h : loSub lo' lo) (k : J Γ A Rep l own nm cc nL ret hh d mc ms QP XP cl sl x pc lo' st) : J Γ A Rep l own nm cc nL ret hh d mc ms QP XP cl sl x pc lo st := j_lo (loSub_len h) (loSub_at h) k
theorem j_pc {pc' : Nat} (h : pc' = pc) (k : J Γ A Rep l own nm cc nL ret hh d mc ms QP XP cl sl x pc' lo st) : J Γ A Rep l own nm cc nL ret hh d mc ms QP XP cl sl x pc lo st := by subst h; exact k
theorem j_iconst {a : Int} (hdg : decode cc pc = .ok (.iconst a, 1)) (hv : Int32.ofInt a = iI a) (kk : J Γ A Rep l own nm cc nL ret hh d mc ms QP XP cl sl x (pc + 1) lo (IV a :: st)) : J Γ A Rep l own nm cc nL ret hh d mc ms QP XP cl sl x pc lo st := by
  intro p e s m args below meth c H locs ls k n F hR hS hl h1 h2
  exact lv_iconst F.1 F.2.1 hdg hv (kk p e s m args below meth c H locs ls k n F hR hS hl h1 h2)
theorem j_bipush {a : Int} (hdg : decode cc pc = .ok (.bipush a, 2)) (hv : (Int8.ofInt a).toInt32 = iI a) (kk : J Γ A Rep l own nm cc nL ret hh d mc ms QP XP cl sl x (pc + 2) lo (IV a :: st)) : J Γ A Rep l own nm cc nL ret hh d mc ms QP XP cl sl x pc lo st := by
  intro p e s m args below meth c H locs ls k n F hR hS hl h1 h2
  exact lv_bipush F.1 F.2.1 hdg hv (kk p e s m args below meth c H locs ls k n F hR hS hl h1 h2)
theorem j_sipush {a : Int} (hdg : decode cc pc = .ok (.sipush a, 3)) (hv : (Int16.ofInt a).toInt32 = iI a) (kk : J Γ A Rep l own nm cc nL ret hh d mc ms QP XP cl sl x (pc + 3) lo (IV a :: st)) : J Γ A Rep l own nm cc nL ret hh d mc ms QP XP cl sl x pc lo st := by
  intro p e s m args below meth c H locs ls k n F hR hS hl h1 h2
  exact lv_sipush F.1 F.2.1 hdg hv (kk p e s m args below meth c H locs ls k n F hR hS hl h1 h2)
theorem j_ldc {index : Nat} {v : Int32} {a : Int} (hq : Jvm.Cond.constant own index v ∈ lw_all) (hdg : decode cc pc = .ok (.ldc index, 2)) (hv : v = iI a) (kk : J Γ A Rep l own nm cc nL ret hh d mc ms QP XP cl sl x (pc + 2) lo (IV a :: st)) : J Γ A Rep l own nm cc nL ret hh d mc ms QP XP cl sl x pc lo st := by
  intro p e s m args below meth c H locs ls k n F hR hS hl h1 h2
  subst hv
  exact lv_ldc F.1 F.2.1 F.2.2.2.2.2.1 (F.2.2.2.2.2.2.1 _ hq) hdg (kk p e s m args below meth c H locs ls k n F hR hS hl h1 h2)
theorem j_null (hdg : decode cc pc = .ok (.aconst_null, 1)) (kk : J Γ A Rep l own nm cc nL ret hh d mc ms QP XP cl sl x (pc + 1) lo (.null :: st)) : J Γ A Rep l own nm cc nL ret hh d mc ms QP XP cl sl x pc lo st := by
  intro p e s m args below meth c H locs ls k n F hR hS hl h1 h2
  exact lv_null F.1 F.2.1 hdg (kk p e s m args below meth c H locs ls k n F hR hS hl h1 h2)
theorem j_lconst {n0 : Fin 2} {v : Int64} (hdg : decode cc pc = .ok (.lconst n0, 1)) (hv : Int64.ofNat (n0 : Nat) = v) (kk : J Γ A Rep l own nm cc nL ret hh d mc ms QP XP cl sl x (pc + 1) lo (.long v :: st)) : J Γ A Rep l own nm cc nL ret hh d mc ms QP XP cl sl x pc lo st := by
  intro p e s m args below meth c H locs ls k n F hR hS hl h1 h2
  exact lv_lconst F.1 F.2.1 hdg hv (kk p e s m args below meth c H locs ls k n F hR hS hl h1 h2)
theorem j_iload_n {i : Fin 4} {a : Int} (hdg : decode cc pc = .ok (.iload_n i, 1)) (hv : lo[(i : Nat)]? = some (some (IV a))) (kk : J Γ A Rep l own nm cc nL ret hh d mc ms QP XP cl sl x (pc + 1) lo (IV a :: st)) : J Γ A Rep l own nm cc nL ret hh d mc ms QP XP cl sl x pc lo st := by
  intro p e s m args below meth c H locs ls k n F hR hS hl h1 h2
  exact lv_iload_n F.1 F.2.1 hdg rfl (hl.2.2.2 _ _ hv).1 (kk p e s m args below meth c H locs ls k n F hR hS hl h1 h2)
theorem j_iload {i : Nat} {a : Int} (hdg : decode cc pc = .ok (.iload i, 2)) (hv : lo[i]? = some (some (IV a))) (kk : J Γ A Rep l own nm cc nL ret hh d mc ms QP XP cl sl x (pc + 2) lo (IV a :: st)) : J Γ A Rep l own nm cc nL ret hh d mc ms QP XP cl sl x pc lo st := by
  intro p e s m args below meth c H locs ls k n F hR hS hl h1 h2
  exact lv_iload F.1 F.2.1 hdg (hl.2.2.2 _ _ hv).1 (kk p e s m args below meth c H locs ls k n F hR hS hl h1 h2)
theorem j_aload_n {i : Fin 4} {a : Nat} (hdg : decode cc pc = .ok (.aload_n i, 1)) (hv : lo[(i : Nat)]? = some (some (.ref a))) (kk : J Γ A Rep l own nm cc nL ret hh d mc ms QP XP cl sl x (pc + 1) lo (.ref a :: st)) : J Γ A Rep l own nm cc nL ret hh d mc ms QP XP cl sl x pc lo st := by
  intro p e s m args below meth c H locs ls k n F hR hS hl h1 h2
  exact lv_aload_n F.1 F.2.1 hdg rfl (hl.2.2.2 _ _ hv).1 (kk p e s m args below meth c H locs ls k n F hR hS hl h1 h2)
theorem j_aload {i : Nat} {a : Nat} (hdg : decode cc pc = .ok (.aload i, 2)) (hv : lo[i]? = some (some (.ref a))) (kk : J Γ A Rep l own nm cc nL ret hh d mc ms QP XP cl sl x (pc + 2) lo (.ref a :: st)) : J Γ A Rep l own nm cc nL ret hh d mc ms QP XP cl sl x pc lo st := by
  intro p e s m args below meth c H locs ls k n F hR hS hl h1 h2
  exact lv_aload F.1 F.2.1 hdg (hl.2.2.2 _ _ hv).1 (kk p e s m args below meth c H locs ls k n F hR hS hl h1 h2)
theorem j_istore_n {i : Fin 4} {a : Int} (hdg : decode cc pc = .ok (.istore_n i, 1)) {lo' : List (Option Value)} (hi : (i : Nat) < nL) (hlo : lo.set (i : Nat) (some (IV a)) = lo') (kk : J Γ A Rep l own nm cc nL ret hh d mc ms QP XP cl sl x (pc + 1) lo' st) : J Γ A Rep l own nm cc nL ret hh d mc ms QP XP cl sl x pc lo (IV a :: st) := by
  intro p e s m args below meth c H locs ls k n F hR hS hl h1 h2
  subst hlo
  exact lv_istore_n F.1 F.2.1 hdg rfl hl.has hi rfl (fun ls' hl' => kk p e s m args below meth c H locs ls' k n F hR hS (hl.set hi rfl hl') h1 h2)
theorem j_istore {i : Nat} {a : Int} (hdg : decode cc pc = .ok (.istore i, 2)) {lo' : List (Option Value)} (hi : i < nL) (hlo : lo.set i (some (IV a)) = lo') (kk : J Γ A Rep l own nm cc nL ret hh d mc ms QP XP cl sl x (pc + 2) lo' st) : J Γ A Rep l own nm cc nL ret hh d mc ms QP XP cl sl x pc lo (IV a :: st) := by
  intro p e s m args below meth c H locs ls k n F hR hS hl h1 h2
  subst hlo
  exact lv_istore F.1 F.2.1 hdg hl.has hi rfl (fun ls' hl' => kk p e s m args below meth c H locs ls' k n F hR hS (hl.set hi rfl hl') h1 h2)
theorem j_astore_n {i : Fin 4} {a : Nat} (hdg : decode cc pc = .ok (.astore_n i, 1)) {lo' : List (Option Value)} (hi : (i : Nat) < nL) (hlo : lo.set (i : Nat) (some (.ref a)) = lo') (kk : J Γ A Rep l own nm cc nL ret hh d mc ms QP XP cl sl x (pc + 1) lo' st) : J Γ A Rep l own nm cc nL ret hh d mc ms QP XP cl sl x pc lo (.ref a :: st) := by
  intro p e s m args below meth c H locs ls k n F hR hS hl h1 h2
  subst hlo
  exact lv_astore_n F.1 F.2.1 hdg rfl hl.has hi rfl (fun ls' hl' => kk p e s m args below meth c H locs ls' k n F hR hS (hl.set hi rfl hl') h1 h2)
theorem j_astore {i : Nat} {a : Nat} (hdg : decode cc pc = .ok (.astore i, 2)) {lo' : List (Option Value)} (hi : i < nL) (hlo : lo.set i (some (.ref a)) = lo') (kk : J Γ A Rep l own nm cc nL ret hh d mc ms QP XP cl sl x (pc + 2) lo' st) : J Γ A Rep l own nm cc nL ret hh d mc ms QP XP cl sl x pc lo (.ref a :: st) := by
  intro p e s m args below meth c H locs ls k n F hR hS hl h1 h2
  subst hlo
  exact lv_astore F.1 F.2.1 hdg hl.has hi rfl (fun ls' hl' => kk p e s m args below meth c H locs ls' k n F hR hS (hl.set hi rfl hl') h1 h2)
theorem jl_place {i : Nat} {v : Value} (h : lo[i]? = some (some v)) : ∃ k : Nat, (jl_l lo)[k]? = some (i, v) := List.getElem?_of_mem (jl_mem.mpr h)
theorem j_iinc {i : Nat} {n0 a : Int} (hdg : decode cc pc = .ok (.iinc i n0, 3)) (hv : lo[i]? = some (some (IV a))) {lo' : List (Option Value)} (hi : i < nL) (hlo : lo.set i (some (IV (a + n0))) = lo') (kk : J Γ A Rep l own nm cc nL ret hh d mc ms QP XP cl sl x (pc + 3) lo' st) : J Γ A Rep l own nm cc nL ret hh d mc ms QP XP cl sl x pc lo st := by
  intro p e s m args below meth c H locs ls k n F hR hS hl h1 h2
  subst hlo
  obtain ⟨k9, hk9⟩ := jl_place hv
  exact lv_iinc F.1 F.2.1 hdg hl.has hk9 (v := iI (a + n0)) (by rw [← iI_add]; rfl) hi rfl (fun ls' hl' => kk p e s m args below meth c H locs ls' k n F hR hS (hl.set hi rfl hl') h1 h2)
theorem j_iadd {a b : Int} (hdg : decode cc pc = .ok (.iadd, 1)) (kk : J Γ A Rep l own nm cc nL ret hh d mc ms QP XP cl sl x (pc + 1) lo (IV (a + b) :: st)) : J Γ A Rep l own nm cc nL ret hh d mc ms QP XP cl sl x pc lo (IV b :: IV a :: st) := by
  intro p e s m args below meth c H locs ls k n F hR hS hl h1 h2
  have h9 := kk p e s m args below meth c H locs ls k n F hR hS hl h1 h2
  unfold IV at h9
  rw [← iI_add] at h9
  exact lv_iadd F.1 F.2.1 hdg h9
theorem j_isub {a b : Int} (hdg : decode cc pc = .ok (.isub, 1)) (kk : J Γ A Rep l own nm cc nL ret hh d mc ms QP XP cl sl x (pc + 1) lo (IV (a - b) :: st)) : J Γ A Rep l own nm cc nL ret hh d mc ms QP XP cl sl x pc lo (IV b :: IV a :: st) := by
  intro p e s m args below meth c H locs ls k n F hR hS hl h1 h2
  have h9 := kk p e s m args below meth c H locs ls k n F hR hS hl h1 h2
  unfold IV at h9
  rw [← iI_sub] at h9
  exact lv_isub F.1 F.2.1 hdg h9
theorem j_imul {a b : Int} (hdg : decode cc pc = .ok (.imul, 1)) (kk : J Γ A Rep l own nm cc nL ret hh d mc ms QP XP cl sl x (pc + 1) lo (IV (a * b) :: st)) : J Γ A Rep l own nm cc nL ret hh d mc ms QP XP cl sl x pc lo (IV b :: IV a :: st) := by
  intro p e s m args below meth c H locs ls k n F hR hS hl h1 h2
  have h9 := kk p e s m args below meth c H locs ls k n F hR hS hl h1 h2
  unfold IV at h9
  rw [← iI_mul] at h9
  exact lv_imul F.1 F.2.1 hdg h9
theorem j_ineg {a : Int} (hdg : decode cc pc = .ok (.ineg, 1)) (kk : J Γ A Rep l own nm cc nL ret hh d mc ms QP XP cl sl x (pc + 1) lo (IV (-a) :: st)) : J Γ A Rep l own nm cc nL ret hh d mc ms QP XP cl sl x pc lo (IV a :: st) := by
  intro p e s m args below meth c H locs ls k n F hR hS hl h1 h2
  have h9 := kk p e s m args below meth c H locs ls k n F hR hS hl h1 h2
  unfold IV at h9
  rw [← iI_neg] at h9
  exact lv_ineg F.1 F.2.1 hdg h9
theorem j_idiv {a b : Int} (hdg : decode cc pc = .ok (.idiv, 1)) (ha : 0 ≤ a ∧ a < 2147483648) (hb : 0 < b ∧ b < 2147483648) (kk : J Γ A Rep l own nm cc nL ret hh d mc ms QP XP cl sl x (pc + 1) lo (IV (a / b) :: st)) : J Γ A Rep l own nm cc nL ret hh d mc ms QP XP cl sl x pc lo (IV b :: IV a :: st) := by
  intro p e s m args below meth c H locs ls k n F hR hS hl h1 h2
  have h9 := kk p e s m args below meth c H locs ls k n F hR hS hl h1 h2
  unfold IV at h9
  rw [← iI_div ha hb] at h9
  exact lv_idiv F.1 F.2.1 hdg (iI_n0 hb) h9
theorem j_irem {a b : Int} (hdg : decode cc pc = .ok (.irem, 1)) (ha : 0 ≤ a ∧ a < 2147483648) (hb : 0 < b ∧ b < 2147483648) (kk : J Γ A Rep l own nm cc nL ret hh d mc ms QP XP cl sl x (pc + 1) lo (IV (a % b) :: st)) : J Γ A Rep l own nm cc nL ret hh d mc ms QP XP cl sl x pc lo (IV b :: IV a :: st) := by
  intro p e s m args below meth c H locs ls k n F hR hS hl h1 h2
  have h9 := kk p e s m args below meth c H locs ls k n F hR hS hl h1 h2
  unfold IV at h9
  rw [← iI_rem ha hb] at h9
  exact lv_irem F.1 F.2.1 hdg (iI_n0 hb) h9
theorem j_iand {a b r : Int} (hdg : decode cc pc = .ok (.iand, 1)) (hr : iI a &&& iI b = iI r) (kk : J Γ A Rep l own nm cc nL ret hh d mc ms QP XP cl sl x (pc + 1) lo (IV r :: st)) : J Γ A Rep l own nm cc nL ret hh d mc ms QP XP cl sl x pc lo (IV b :: IV a :: st) := by
  intro p e s m args below meth c H locs ls k n F hR hS hl h1 h2
  have h9 := kk p e s m args below meth c H locs ls k n F hR hS hl h1 h2
  unfold IV at h9
  rw [← hr] at h9
  exact lv_iand F.1 F.2.1 hdg h9
theorem j_ior {a b r : Int} (hdg : decode cc pc = .ok (.ior, 1)) (hr : iI a ||| iI b = iI r) (kk : J Γ A Rep l own nm cc nL ret hh d mc ms QP XP cl sl x (pc + 1) lo (IV r :: st)) : J Γ A Rep l own nm cc nL ret hh d mc ms QP XP cl sl x pc lo (IV b :: IV a :: st) := by
  intro p e s m args below meth c H locs ls k n F hR hS hl h1 h2
  have h9 := kk p e s m args below meth c H locs ls k n F hR hS hl h1 h2
  unfold IV at h9
  rw [← hr] at h9
  exact lv_ior F.1 F.2.1 hdg h9
theorem j_ishl {a b r : Int} (hdg : decode cc pc = .ok (.ishl, 1)) (hr : iI a <<< (iI b &&& 31) = iI r) (kk : J Γ A Rep l own nm cc nL ret hh d mc ms QP XP cl sl x (pc + 1) lo (IV r :: st)) : J Γ A Rep l own nm cc nL ret hh d mc ms QP XP cl sl x pc lo (IV b :: IV a :: st) := by
  intro p e s m args below meth c H locs ls k n F hR hS hl h1 h2
  have h9 := kk p e s m args below meth c H locs ls k n F hR hS hl h1 h2
  unfold IV at h9
  rw [← hr] at h9
  exact lv_ishl F.1 F.2.1 hdg h9
theorem j_ishr {a b r : Int} (hdg : decode cc pc = .ok (.ishr, 1)) (hr : iI a >>> (iI b &&& 31) = iI r) (kk : J Γ A Rep l own nm cc nL ret hh d mc ms QP XP cl sl x (pc + 1) lo (IV r :: st)) : J Γ A Rep l own nm cc nL ret hh d mc ms QP XP cl sl x pc lo (IV b :: IV a :: st) := by
  intro p e s m args below meth c H locs ls k n F hR hS hl h1 h2
  have h9 := kk p e s m args below meth c H locs ls k n F hR hS hl h1 h2
  unfold IV at h9
  rw [← hr] at h9
  exact lv_ishr F.1 F.2.1 hdg h9
theorem j_i2b {a r : Int} (hdg : decode cc pc = .ok (.i2b, 1)) (hr : (iI a).toInt8.toInt32 = iI r) (kk : J Γ A Rep l own nm cc nL ret hh d mc ms QP XP cl sl x (pc + 1) lo (IV r :: st)) : J Γ A Rep l own nm cc nL ret hh d mc ms QP XP cl sl x pc lo (IV a :: st) := by
  intro p e s m args below meth c H locs ls k n F hR hS hl h1 h2
  exact lv_i2b F.1 F.2.1 hdg hr (kk p e s m args below meth c H locs ls k n F hR hS hl h1 h2)
theorem j_i2c {a r : Int} (hdg : decode cc pc = .ok (.i2c, 1)) (hr : ((iI a).toUInt32 % 65536).toInt32 = iI r) (kk : J Γ A Rep l own nm cc nL ret hh d mc ms QP XP cl sl x (pc + 1) lo (IV r :: st)) : J Γ A Rep l own nm cc nL ret hh d mc ms QP XP cl sl x pc lo (IV a :: st) := by
  intro p e s m args below meth c H locs ls k n F hR hS hl h1 h2
  exact lv_i2c F.1 F.2.1 hdg hr (kk p e s m args below meth c H locs ls k n F hR hS hl h1 h2)
theorem j_i2l {a : Int} (hdg : decode cc pc = .ok (.i2l, 1)) (ha : RR a) (kk : J Γ A Rep l own nm cc nL ret hh d mc ms QP XP cl sl x (pc + 1) lo (.long (Int64.ofInt a) :: st)) : J Γ A Rep l own nm cc nL ret hh d mc ms QP XP cl sl x pc lo (IV a :: st) := by
  intro p e s m args below meth c H locs ls k n F hR hS hl h1 h2
  exact lv_i2l F.1 F.2.1 hdg (Int32.toInt64_ofInt (by show (-2147483648 : Int) ≤ a; omega) (by show a ≤ (2147483647 : Int); omega)) (kk p e s m args below meth c H locs ls k n F hR hS hl h1 h2)
theorem j_dup {v : Value} (hdg : decode cc pc = .ok (.dup, 1)) (hv : v.category = 1) (kk : J Γ A Rep l own nm cc nL ret hh d mc ms QP XP cl sl x (pc + 1) lo (v :: v :: st)) : J Γ A Rep l own nm cc nL ret hh d mc ms QP XP cl sl x pc lo (v :: st) := by
  intro p e s m args below meth c H locs ls k n F hR hS hl h1 h2
  exact lv_dup F.1 F.2.1 hdg hv (kk p e s m args below meth c H locs ls k n F hR hS hl h1 h2)
theorem j_pop {v : Value} (hdg : decode cc pc = .ok (.pop, 1)) (hv : v.category = 1) (kk : J Γ A Rep l own nm cc nL ret hh d mc ms QP XP cl sl x (pc + 1) lo (st)) : J Γ A Rep l own nm cc nL ret hh d mc ms QP XP cl sl x pc lo (v :: st) := by
  intro p e s m args below meth c H locs ls k n F hR hS hl h1 h2
  exact lv_pop F.1 F.2.1 hdg hv (kk p e s m args below meth c H locs ls k n F hR hS hl h1 h2)
theorem j_dup_x1 {v w : Value} (hdg : decode cc pc = .ok (.dup_x1, 1)) (hv : v.category = 1) (hw : w.category = 1) (kk : J Γ A Rep l own nm cc nL ret hh d mc ms QP XP cl sl x (pc + 1) lo (v :: w :: v :: st)) : J Γ A Rep l own nm cc nL ret hh d mc ms QP XP cl sl x pc lo (v :: w :: st) := by
  intro p e s m args below meth c H locs ls k n F hR hS hl h1 h2
  exact lv_dup_x1 F.1 F.2.1 hdg hv hw (kk p e s m args below meth c H locs ls k n F hR hS hl h1 h2)
theorem j_dup2 {v w : Value} (hdg : decode cc pc = .ok (.dup2, 1)) (hv : v.category = 1) (hw : w.category = 1) (kk : J Γ A Rep l own nm cc nL ret hh d mc ms QP XP cl sl x (pc + 1) lo (v :: w :: v :: w :: st)) : J Γ A Rep l own nm cc nL ret hh d mc ms QP XP cl sl x pc lo (v :: w :: st) := by
  intro p e s m args below meth c H locs ls k n F hR hS hl h1 h2
  exact lv_dup2_11 F.1 F.2.1 hdg hv hw (kk p e s m args below meth c H locs ls k n F hR hS hl h1 h2)
theorem c_eq {a b : Int} (ha : RR a) (hb : RR b) : (iI a = iI b) ↔ (a = b) := (iI_eq ha hb)
theorem c_ne {a b : Int} (ha : RR a) (hb : RR b) : (¬ iI a = iI b) ↔ (¬ a = b) := not_congr (iI_eq ha hb)
theorem c_lt {a b : Int} (ha : RR a) (hb : RR b) : (iI a < iI b) ↔ (a < b) := iI_lt ha hb
theorem c_ge {a b : Int} (ha : RR a) (hb : RR b) : (iI b ≤ iI a) ↔ (b ≤ a) := iI_le hb ha
theorem c_gt {a b : Int} (ha : RR a) (hb : RR b) : (iI b < iI a) ↔ (b < a) := iI_lt hb ha
theorem c_le {a b : Int} (ha : RR a) (hb : RR b) : (iI a ≤ iI b) ↔ (a ≤ b) := iI_le ha hb
theorem j_icmp_eq {a b off : Int} {tgt : Nat} (hdg : decode cc pc = .ok (.if_icmp .eq off, 3)) (ht : (pc : Int) + off = (tgt : Int)) (ha : RR a) (hb : RR b) (kt : a = b → J Γ A Rep l own nm cc nL ret hh d mc ms QP XP cl sl x tgt lo st) (kf : ¬ a = b → J Γ A Rep l own nm cc nL ret hh d mc ms QP XP cl sl x (pc + 3) lo st) : J Γ A Rep l own nm cc nL ret hh d mc ms QP XP cl sl x pc lo (IV b :: IV a :: st) := by
  intro p e s m args below meth c H locs ls k n F hR hS hl h1 h2
  refine lv_icmp_eq F.1 F.2.1 hdg ht (fun h => kt ((c_eq ha hb).mp h) p e s m args below meth c H locs ls k n F hR hS hl h1 h2) (fun h => ?_)
  have h9 : ¬ (a = b) := fun q => h ((c_eq ha hb).mpr q)
  exact kf (h9) p e s m args below meth c H locs ls k n F hR hS hl h1 h2
theorem j_if_eq {a off : Int} {tgt : Nat} (hdg : decode cc pc = .ok (.ifCond .eq off, 3)) (ht : (pc : Int) + off = (tgt : Int)) (ha : RR a) (kt : a = 0 → J Γ A Rep l own nm cc nL ret hh d mc ms QP XP cl sl x tgt lo st) (kf : ¬ a = 0 → J Γ A Rep l own nm cc nL ret hh d mc ms QP XP cl sl x (pc + 3) lo st) : J Γ A Rep l own nm cc nL ret hh d mc ms QP XP cl sl x pc lo (IV a :: st) := by
  intro p e s m args below meth c H locs ls k n F hR hS hl h1 h2
  have hb : RR 0 := by constructor <;> decide
  refine lv_if_eq F.1 F.2.1 hdg ht (fun h => kt ((c_eq (b := 0) ha hb).mp h) p e s m args below meth c H locs ls k n F hR hS hl h1 h2) (fun h => ?_)
  have h9 : ¬ (a = 0) := fun q => h ((c_eq (b := 0) ha hb).mpr q)
  exact kf (h9) p e s m args below meth c H locs ls k n F hR hS hl h1 h2
theorem j_icmp_ne {a b off : Int} {tgt : Nat} (hdg : decode cc pc = .ok (.if_icmp .ne off, 3)) (ht : (pc : Int) + off = (tgt : Int)) (ha : RR a) (hb : RR b) (kt : ¬ a = b → J Γ A Rep l own nm cc nL ret hh d mc ms QP XP cl sl x tgt lo st) (kf : a = b → J Γ A Rep l own nm cc nL ret hh d mc ms QP XP cl sl x (pc + 3) lo st) : J Γ A Rep l own nm cc nL ret hh d mc ms QP XP cl sl x pc lo (IV b :: IV a :: st) := by
  intro p e s m args below meth c H locs ls k n F hR hS hl h1 h2
  refine lv_icmp_ne F.1 F.2.1 hdg ht (fun h => kt ((c_ne ha hb).mp h) p e s m args below meth c H locs ls k n F hR hS hl h1 h2) (fun h => ?_)
  have h9 : a = b := (iI_eq ha hb).mp h
  exact kf (h9) p e s m args below meth c H locs ls k n F hR hS hl h1 h2
theorem j_if_ne {a off : Int} {tgt : Nat} (hdg : decode cc pc = .ok (.ifCond .ne off, 3)) (ht : (pc : Int) + off = (tgt : Int)) (ha : RR a) (kt : ¬ a = 0 → J Γ A Rep l own nm cc nL ret hh d mc ms QP XP cl sl x tgt lo st) (kf : a = 0 → J Γ A Rep l own nm cc nL ret hh d mc ms QP XP cl sl x (pc + 3) lo st) : J Γ A Rep l own nm cc nL ret hh d mc ms QP XP cl sl x pc lo (IV a :: st) := by
  intro p e s m args below meth c H locs ls k n F hR hS hl h1 h2
  have hb : RR 0 := by constructor <;> decide
  refine lv_if_ne F.1 F.2.1 hdg ht (fun h => kt ((c_ne (b := 0) ha hb).mp h) p e s m args below meth c H locs ls k n F hR hS hl h1 h2) (fun h => ?_)
  have h9 : a = 0 := (iI_eq (b := 0) ha hb).mp h
  exact kf (h9) p e s m args below meth c H locs ls k n F hR hS hl h1 h2
theorem j_icmp_lt {a b off : Int} {tgt : Nat} (hdg : decode cc pc = .ok (.if_icmp .lt off, 3)) (ht : (pc : Int) + off = (tgt : Int)) (ha : RR a) (hb : RR b) (kt : a < b → J Γ A Rep l own nm cc nL ret hh d mc ms QP XP cl sl x tgt lo st) (kf : b ≤ a → J Γ A Rep l own nm cc nL ret hh d mc ms QP XP cl sl x (pc + 3) lo st) : J Γ A Rep l own nm cc nL ret hh d mc ms QP XP cl sl x pc lo (IV b :: IV a :: st) := by
  intro p e s m args below meth c H locs ls k n F hR hS hl h1 h2
  refine lv_icmp_lt F.1 F.2.1 hdg ht (fun h => kt ((c_lt ha hb).mp h) p e s m args below meth c H locs ls k n F hR hS hl h1 h2) (fun h => ?_)
  have h9 : ¬ (a < b) := fun q => h ((c_lt ha hb).mpr q)
  exact kf (by omega) p e s m args below meth c H locs ls k n F hR hS hl h1 h2
theorem j_if_lt {a off : Int} {tgt : Nat} (hdg : decode cc pc = .ok (.ifCond .lt off, 3)) (ht : (pc : Int) + off = (tgt : Int)) (ha : RR a) (kt : a < 0 → J Γ A Rep l own nm cc nL ret hh d mc ms QP XP cl sl x tgt lo st) (kf : 0 ≤ a → J Γ A Rep l own nm cc nL ret hh d mc ms QP XP cl sl x (pc + 3) lo st) : J Γ A Rep l own nm cc nL ret hh d mc ms QP XP cl sl x pc lo (IV a :: st) := by
  intro p e s m args below meth c H locs ls k n F hR hS hl h1 h2
  have hb : RR 0 := by constructor <;> decide
  refine lv_if_lt F.1 F.2.1 hdg ht (fun h => kt ((c_lt (b := 0) ha hb).mp h) p e s m args below meth c H locs ls k n F hR hS hl h1 h2) (fun h => ?_)
  have h9 : ¬ (a < 0) := fun q => h ((c_lt (b := 0) ha hb).mpr q)
  exact kf (by omega) p e s m args below meth c H locs ls k n F hR hS hl h1 h2
theorem j_icmp_ge {a b off : Int} {tgt : Nat} (hdg : decode cc pc = .ok (.if_icmp .ge off, 3)) (ht : (pc : Int) + off = (tgt : Int)) (ha : RR a) (hb : RR b) (kt : b ≤ a → J Γ A Rep l own nm cc nL ret hh d mc ms QP XP cl sl x tgt lo st) (kf : a < b → J Γ A Rep l own nm cc nL ret hh d mc ms QP XP cl sl x (pc + 3) lo st) : J Γ A Rep l own nm cc nL ret hh d mc ms QP XP cl sl x pc lo (IV b :: IV a :: st) := by
  intro p e s m args below meth c H locs ls k n F hR hS hl h1 h2
  refine lv_icmp_ge F.1 F.2.1 hdg ht (fun h => kt ((c_ge ha hb).mp h) p e s m args below meth c H locs ls k n F hR hS hl h1 h2) (fun h => ?_)
  have h9 : ¬ (b ≤ a) := fun q => h ((c_ge ha hb).mpr q)
  exact kf (by omega) p e s m args below meth c H locs ls k n F hR hS hl h1 h2
theorem j_if_ge {a off : Int} {tgt : Nat} (hdg : decode cc pc = .ok (.ifCond .ge off, 3)) (ht : (pc : Int) + off = (tgt : Int)) (ha : RR a) (kt : 0 ≤ a → J Γ A Rep l own nm cc nL ret hh d mc ms QP XP cl sl x tgt lo st) (kf : a < 0 → J Γ A Rep l own nm cc nL ret hh d mc ms QP XP cl sl x (pc + 3) lo st) : J Γ A Rep l own nm cc nL ret hh d mc ms QP XP cl sl x pc lo (IV a :: st) := by
  intro p e s m args below meth c H locs ls k n F hR hS hl h1 h2
  have hb : RR 0 := by constructor <;> decide
  refine lv_if_ge F.1 F.2.1 hdg ht (fun h => kt ((c_ge (b := 0) ha hb).mp h) p e s m args below meth c H locs ls k n F hR hS hl h1 h2) (fun h => ?_)
  have h9 : ¬ (0 ≤ a) := fun q => h ((c_ge (b := 0) ha hb).mpr q)
  exact kf (by omega) p e s m args below meth c H locs ls k n F hR hS hl h1 h2
theorem j_icmp_gt {a b off : Int} {tgt : Nat} (hdg : decode cc pc = .ok (.if_icmp .gt off, 3)) (ht : (pc : Int) + off = (tgt : Int)) (ha : RR a) (hb : RR b) (kt : b < a → J Γ A Rep l own nm cc nL ret hh d mc ms QP XP cl sl x tgt lo st) (kf : a ≤ b → J Γ A Rep l own nm cc nL ret hh d mc ms QP XP cl sl x (pc + 3) lo st) : J Γ A Rep l own nm cc nL ret hh d mc ms QP XP cl sl x pc lo (IV b :: IV a :: st) := by
  intro p e s m args below meth c H locs ls k n F hR hS hl h1 h2
  refine lv_icmp_gt F.1 F.2.1 hdg ht (fun h => kt ((c_gt ha hb).mp h) p e s m args below meth c H locs ls k n F hR hS hl h1 h2) (fun h => ?_)
  have h9 : ¬ (b < a) := fun q => h ((c_gt ha hb).mpr q)
  exact kf (by omega) p e s m args below meth c H locs ls k n F hR hS hl h1 h2
theorem j_if_gt {a off : Int} {tgt : Nat} (hdg : decode cc pc = .ok (.ifCond .gt off, 3)) (ht : (pc : Int) + off = (tgt : Int)) (ha : RR a) (kt : 0 < a → J Γ A Rep l own nm cc nL ret hh d mc ms QP XP cl sl x tgt lo st) (kf : a ≤ 0 → J Γ A Rep l own nm cc nL ret hh d mc ms QP XP cl sl x (pc + 3) lo st) : J Γ A Rep l own nm cc nL ret hh d mc ms QP XP cl sl x pc lo (IV a :: st) := by
  intro p e s m args below meth c H locs ls k n F hR hS hl h1 h2
  have hb : RR 0 := by constructor <;> decide
  refine lv_if_gt F.1 F.2.1 hdg ht (fun h => kt ((c_gt (b := 0) ha hb).mp h) p e s m args below meth c H locs ls k n F hR hS hl h1 h2) (fun h => ?_)
  have h9 : ¬ (0 < a) := fun q => h ((c_gt (b := 0) ha hb).mpr q)
  exact kf (by omega) p e s m args below meth c H locs ls k n F hR hS hl h1 h2
theorem j_icmp_le {a b off : Int} {tgt : Nat} (hdg : decode cc pc = .ok (.if_icmp .le off, 3)) (ht : (pc : Int) + off = (tgt : Int)) (ha : RR a) (hb : RR b) (kt : a ≤ b → J Γ A Rep l own nm cc nL ret hh d mc ms QP XP cl sl x tgt lo st) (kf : b < a → J Γ A Rep l own nm cc nL ret hh d mc ms QP XP cl sl x (pc + 3) lo st) : J Γ A Rep l own nm cc nL ret hh d mc ms QP XP cl sl x pc lo (IV b :: IV a :: st) := by
  intro p e s m args below meth c H locs ls k n F hR hS hl h1 h2
  refine lv_icmp_le F.1 F.2.1 hdg ht (fun h => kt ((c_le ha hb).mp h) p e s m args below meth c H locs ls k n F hR hS hl h1 h2) (fun h => ?_)
  have h9 : ¬ (a ≤ b) := fun q => h ((c_le ha hb).mpr q)
  exact kf (by omega) p e s m args below meth c H locs ls k n F hR hS hl h1 h2
theorem j_if_le {a off : Int} {tgt : Nat} (hdg : decode cc pc = .ok (.ifCond .le off, 3)) (ht : (pc : Int) + off = (tgt : Int)) (ha : RR a) (kt : a ≤ 0 → J Γ A Rep l own nm cc nL ret hh d mc ms QP XP cl sl x tgt lo st) (kf : 0 < a → J Γ A Rep l own nm cc nL ret hh d mc ms QP XP cl sl x (pc + 3) lo st) : J Γ A Rep l own nm cc nL ret hh d mc ms QP XP cl sl x pc lo (IV a :: st) := by
  intro p e s m args below meth c H locs ls k n F hR hS hl h1 h2
  have hb : RR 0 := by constructor <;> decide
  refine lv_if_le F.1 F.2.1 hdg ht (fun h => kt ((c_le (b := 0) ha hb).mp h) p e s m args below meth c H locs ls k n F hR hS hl h1 h2) (fun h => ?_)
  have h9 : ¬ (a ≤ 0) := fun q => h ((c_le (b := 0) ha hb).mpr q)
  exact kf (by omega) p e s m args below meth c H locs ls k n F hR hS hl h1 h2
theorem j_ifb_eq {P : Prop} [Decidable P] {off : Int} {tgt : Nat} (hdg : decode cc pc = .ok (.ifCond .eq off, 3)) (ht : (pc : Int) + off = (tgt : Int)) (kt : ¬ P → J Γ A Rep l own nm cc nL ret hh d mc ms QP XP cl sl x tgt lo st) (kf : P → J Γ A Rep l own nm cc nL ret hh d mc ms QP XP cl sl x (pc + 3) lo st) : J Γ A Rep l own nm cc nL ret hh d mc ms QP XP cl sl x pc lo (IV (bI P) :: st) := by
  intro p e s m args below meth c H locs ls k n F hR hS hl h1 h2
  by_cases h : P
  · rw [bI_t h]
    exact lv_if_eq F.1 F.2.1 hdg ht (fun z => absurd z (by decide)) (fun _ => kf h p e s m args below meth c H locs ls k n F hR hS hl h1 h2)
  · rw [bI_f h]
    exact lv_if_eq F.1 F.2.1 hdg ht (fun _ => kt h p e s m args below meth c H locs ls k n F hR hS hl h1 h2) (fun z => absurd rfl z)
theorem j_ifb_ne {P : Prop} [Decidable P] {off : Int} {tgt : Nat} (hdg : decode cc pc = .ok (.ifCond .ne off, 3)) (ht : (pc : Int) + off = (tgt : Int)) (kt : P → J Γ A Rep l own nm cc nL ret hh d mc ms QP XP cl sl x tgt lo st) (kf : ¬ P → J Γ A Rep l own nm cc nL ret hh d mc ms QP XP cl sl x (pc + 3) lo st) : J Γ A Rep l own nm cc nL ret hh d mc ms QP XP cl sl x pc lo (IV (bI P) :: st) := by
  intro p e s m args below meth c H locs ls k n F hR hS hl h1 h2
  by_cases h : P
  · rw [bI_t h]
    exact lv_if_ne F.1 F.2.1 hdg ht (fun _ => kt h p e s m args below meth c H locs ls k n F hR hS hl h1 h2) (fun z => absurd z (by decide))
  · rw [bI_f h]
    exact lv_if_ne F.1 F.2.1 hdg ht (fun z => absurd rfl z) (fun _ => kf h p e s m args below meth c H locs ls k n F hR hS hl h1 h2)
theorem j_goto {off : Int} {tgt : Nat} (hdg : decode cc pc = .ok (.goto off, 3)) (ht : (pc : Int) + off = (tgt : Int)) (kk : J Γ A Rep l own nm cc nL ret hh d mc ms QP XP cl sl x tgt lo st) : J Γ A Rep l own nm cc nL ret hh d mc ms QP XP cl sl x pc lo st := by
  intro p e s m args below meth c H locs ls k n F hR hS hl h1 h2
  exact lv_goto F.1 F.2.1 hdg ht (kk p e s m args below meth c H locs ls k n F hR hS hl h1 h2)
theorem j_ifnull {a : Nat} {off : Int} (hdg : decode cc pc = .ok (.ifnull off, 3)) (kk : J Γ A Rep l own nm cc nL ret hh d mc ms QP XP cl sl x (pc + 3) lo st) : J Γ A Rep l own nm cc nL ret hh d mc ms QP XP cl sl x pc lo (.ref a :: st) := by
  intro p e s m args below meth c H locs ls k n F hR hS hl h1 h2
  exact lv_ifnull F.1 F.2.1 hdg (kk p e s m args below meth c H locs ls k n F hR hS hl h1 h2)
theorem j_ifnullN {off : Int} {tgt : Nat} (hdg : decode cc pc = .ok (.ifnull off, 3)) (ht : (pc : Int) + off = (tgt : Int)) (kk : J Γ A Rep l own nm cc nL ret hh d mc ms QP XP cl sl x tgt lo st) : J Γ A Rep l own nm cc nL ret hh d mc ms QP XP cl sl x pc lo (.null :: st) := by
  intro p e s m args below meth c H locs ls k n F hR hS hl h1 h2
  exact lv_ifnullN F.1 F.2.1 hdg ht (kk p e s m args below meth c H locs ls k n F hR hS hl h1 h2)
theorem j_ifnonnull {a : Nat} {off : Int} {tgt : Nat} (hdg : decode cc pc = .ok (.ifnonnull off, 3)) (ht : (pc : Int) + off = (tgt : Int)) (kk : J Γ A Rep l own nm cc nL ret hh d mc ms QP XP cl sl x tgt lo st) : J Γ A Rep l own nm cc nL ret hh d mc ms QP XP cl sl x pc lo (.ref a :: st) := by
  intro p e s m args below meth c H locs ls k n F hR hS hl h1 h2
  exact lv_ifnonnull F.1 F.2.1 hdg ht (kk p e s m args below meth c H locs ls k n F hR hS hl h1 h2)
theorem j_ifnonnullN {off : Int} (hdg : decode cc pc = .ok (.ifnonnull off, 3)) (kk : J Γ A Rep l own nm cc nL ret hh d mc ms QP XP cl sl x (pc + 3) lo st) : J Γ A Rep l own nm cc nL ret hh d mc ms QP XP cl sl x pc lo (.null :: st) := by
  intro p e s m args below meth c H locs ls k n F hR hS hl h1 h2
  exact lv_ifnonnullN F.1 F.2.1 hdg (kk p e s m args below meth c H locs ls k n F hR hS hl h1 h2)
theorem j_iret {a : Int} (hr : ret = some .int) (hq : QP (some (IV a)) x) (hdg : decode cc pc = .ok (.ireturn, 1)) : J Γ A Rep l own nm cc nL ret hh d mc ms QP XP cl sl x pc lo [IV a] := by
  intro p e s m args below meth c H locs ls k n F hR hS hl h1 h2
  refine W.widen (k := mc) (n := ms) (by omega) (by omega) (vx_ret ?_)
  exact W.iret (v := iI a) F.1 F.2.1 (F.2.2.2.1.trans hr) (fun t ht hW => ⟨⟨_, x, rfl, hq, by rw [ht]; exact hR⟩, hS.F ht⟩) hS.2.2 hdg F.2.2.2.2.1
theorem j_zret {a : Int} (hr : ret = some .boolean) (hz : a = 0 ∨ a = 1) (hq : QP (some (IV a)) x) (hdg : decode cc pc = .ok (.ireturn, 1)) : J Γ A Rep l own nm cc nL ret hh d mc ms QP XP cl sl x pc lo [IV a] := by
  intro p e s m args below meth c H locs ls k n F hR hS hl h1 h2
  refine W.widen (k := mc) (n := ms) (by omega) (by omega) (vx_ret ?_)
  exact W.zret (v := iI a) F.1 F.2.1 (F.2.2.2.1.trans hr) (nar_Z hz) (fun t ht hW => ⟨⟨_, x, rfl, hq, by rw [ht]; exact hR⟩, hS.F ht⟩) hS.2.2 hdg F.2.2.2.2.1
theorem j_bret {a : Int} (hr : ret = some .byte) (hz : narrow .byte (IV a) = IV a) (hq : QP (some (IV a)) x) (hdg : decode cc pc = .ok (.ireturn, 1)) : J Γ A Rep l own nm cc nL ret hh d mc ms QP XP cl sl x pc lo [IV a] := by
  intro p e s m args below meth c H locs ls k n F hR hS hl h1 h2
  refine W.widen (k := mc) (n := ms) (by omega) (by omega) (vx_ret ?_)
  exact W.zret (v := iI a) F.1 F.2.1 (F.2.2.2.1.trans hr) hz (fun t ht hW => ⟨⟨_, x, rfl, hq, by rw [ht]; exact hR⟩, hS.F ht⟩) hS.2.2 hdg F.2.2.2.2.1
theorem j_cret {a : Int} (hr : ret = some .char) (hz : narrow .char (IV a) = IV a) (hq : QP (some (IV a)) x) (hdg : decode cc pc = .ok (.ireturn, 1)) : J Γ A Rep l own nm cc nL ret hh d mc ms QP XP cl sl x pc lo [IV a] := by
  intro p e s m args below meth c H locs ls k n F hR hS hl h1 h2
  refine W.widen (k := mc) (n := ms) (by omega) (by omega) (vx_ret ?_)
  exact W.zret (v := iI a) F.1 F.2.1 (F.2.2.2.1.trans hr) hz (fun t ht hW => ⟨⟨_, x, rfl, hq, by rw [ht]; exact hR⟩, hS.F ht⟩) hS.2.2 hdg F.2.2.2.2.1
theorem j_vret (hr : ret = none) (hq : QP (none) x) (hdg : decode cc pc = .ok (.return_, 1)) : J Γ A Rep l own nm cc nL ret hh d mc ms QP XP cl sl x pc lo [] := by
  intro p e s m args below meth c H locs ls k n F hR hS hl h1 h2
  refine W.widen (k := mc) (n := ms) (by omega) (by omega) (vx_ret ?_)
  exact W.vret F.1 F.2.1 (F.2.2.2.1.trans hr) (fun t ht hW => ⟨⟨_, x, rfl, hq, by rw [ht]; exact hR⟩, hS.F ht⟩) hS.2.2 hdg F.2.2.2.2.1
theorem j_aret {a : Nat} {rt : FieldType} (hr : ret = some rt) (hrt : (∃ n, rt = .object n) ∨ ∃ t, rt = .array t) (hq : QP (some (.ref a)) x) (hdg : decode cc pc = .ok (.areturn, 1)) : J Γ A Rep l own nm cc nL ret hh d mc ms QP XP cl sl x pc lo [.ref a] := by
  intro p e s m args below meth c H locs ls k n F hR hS hl h1 h2
  refine W.widen (k := mc) (n := ms) (by omega) (by omega) (vx_ret ?_)
  exact W.aret (v := .ref a) F.1 F.2.1 (F.2.2.2.1.trans hr) hrt (Or.inr ⟨a, rfl⟩) (fun t ht hW => ⟨⟨_, x, rfl, hq, by rw [ht]; exact hR⟩, hS.F ht⟩) hS.2.2 hdg F.2.2.2.2.1
theorem j_nret {rt : FieldType} (hr : ret = some rt) (hrt : (∃ n, rt = .object n) ∨ ∃ t, rt = .array t) (hq : QP (some .null) x) (hdg : decode cc pc = .ok (.areturn, 1)) : J Γ A Rep l own nm cc nL ret hh d mc ms QP XP cl sl x pc lo [.null] := by
  intro p e s m args below meth c H locs ls k n F hR hS hl h1 h2
  refine W.widen (k := mc) (n := ms) (by omega) (by omega) (vx_ret ?_)
  exact W.aret (v := .null) F.1 F.2.1 (F.2.2.2.1.trans hr) hrt (Or.inl rfl) (fun t ht hW => ⟨⟨_, x, rfl, hq, by rw [ht]; exact hR⟩, hS.F ht⟩) hS.2.2 hdg F.2.2.2.2.1
end FR2
