/-! FRAME 7: rows at layer 2; lists -/
set_option maxRecDepth 100000
section FR7
section J7
variable {Γ : GG} {A : Nat → Prop} {K : KK} {l : Launch} {own nm : String} {cc : ByteArray} {nL : Nat} {ret : Option FieldType} {hh : List (Nat × Nat × Nat × Nat)} {d mc ms : Nat} {QP : Option Value → AL2 → Prop} {XP : String → AL2 → Prop} {cl sl : Nat} {h : AL2} {pc : Nat} {lo : List (Option Value)} {st : List Value}
theorem j2_mono {h' : AL2} (hs : ∀ (a : Nat) (c : AC ⊕ List Nat), h' a = some c → h a = some c) (kk : J Γ A (Rep2 Γ A K) l own nm cc nL ret hh d mc ms QP XP cl sl h' pc lo st) : J Γ A (Rep2 Γ A K) l own nm cc nL ret hh d mc ms QP XP cl sl h pc lo st := by
  intro p e s m args below meth c H locs ls k n F hR hS hl h1 h2
  obtain ⟨g, hR1, hL⟩ := hR
  exact kk p e s m args below meth c H locs ls k n F ⟨g, hR1, hL.mono hs⟩ hS hl h1 h2
theorem j2_get {a idx ci k0 : Nat} {fs : List Value} {v : Value} (hF : FA own idx ci k0) (ha : h a = some (pO ci fs)) (hv : fs[k0]? = some v) (hdg : decode cc pc = .ok (.getfield idx, 3)) (kk : J Γ A (Rep2 Γ A K) l own nm cc nL ret hh d mc ms QP XP cl sl h (pc + 3) lo (v :: st)) : J Γ A (Rep2 Γ A K) l own nm cc nL ret hh d mc ms QP XP cl sl h pc lo (.ref a :: st) := by
  intro p e s m args below meth c H locs ls k n F hR hS hl h1 h2
  obtain ⟨g, hR1, hL⟩ := hR
  exact jw_get F hF (hR1 a _ (hL a _ ha).1).2 hv hdg (kk p e s m args below meth c H locs ls k n F ⟨g, hR1, hL⟩ hS hl h1 h2)
theorem j2_put {a idx ci k0 : Nat} {fs : List Value} {v : Value} {ty : FieldType} (hF : FP own idx ci k0 ty false) (ha : h a = some (pO ci fs)) (h9 : ci ≠ 2) (hlen : k0 < fs.length) (hn : narrow ty v = v) (hfit : fits ty v = true) (hdg : decode cc pc = .ok (.putfield idx, 3)) (kk : ∀ h' : AL2, h' = upH h a (pO ci (fs.set k0 v)) → J Γ A (Rep2 Γ A K) l own nm cc nL ret hh d mc ms QP XP cl sl h' (pc + 3) lo st) : J Γ A (Rep2 Γ A K) l own nm cc nL ret hh d mc ms QP XP cl sl h pc lo (v :: .ref a :: st) := by
  intro p e s m args below meth c H locs ls k n F hR hS hl h1 h2
  obtain ⟨g, hR1, hL⟩ := hR
  have g1 := (hL a _ ha).1
  exact jw_put F hF (hR1 a _ g1).2 hlen hn hfit hS (hR1 a _ g1).1 hdg fun H1 locs1 e1 e2 e3 hS1 => kk _ rfl p e s m args below meth c H1 locs1 ls k n F ⟨_, hR1.set (c := aO ci (fs.set k0 v)) g1 e1 e3, hL.set (c := aO ci (fs.set k0 v)) ha (Or.inl h9)⟩ hS1 hl h1 h2
theorem j2_putF {a idx ci k0 : Nat} {fs : List Value} {v : Value} {ty : FieldType} (hin : nm = "<init>") (hF : FP own idx ci k0 ty true) (ha : h a = some (pO ci fs)) (h9 : ci ≠ 2) (hlen : k0 < fs.length) (hn : narrow ty v = v) (hfit : fits ty v = true) (hdg : decode cc pc = .ok (.putfield idx, 3)) (kk : ∀ h' : AL2, h' = upH h a (pO ci (fs.set k0 v)) → J Γ A (Rep2 Γ A K) l own nm cc nL ret hh d mc ms QP XP cl sl h' (pc + 3) lo st) : J Γ A (Rep2 Γ A K) l own nm cc nL ret hh d mc ms QP XP cl sl h pc lo (v :: .ref a :: st) := by
  intro p e s m args below meth c H locs ls k n F hR hS hl h1 h2
  obtain ⟨g, hR1, hL⟩ := hR
  have g1 := (hL a _ ha).1
  exact jw_putF F hin hF (hR1 a _ g1).2 hlen hn hfit hS (hR1 a _ g1).1 hdg fun H1 locs1 e1 e2 e3 hS1 => kk _ rfl p e s m args below meth c H1 locs1 ls k n F ⟨_, hR1.set (c := aO ci (fs.set k0 v)) g1 e1 e3, hL.set (c := aO ci (fs.set k0 v)) ha (Or.inl h9)⟩ hS1 hl h1 h2
theorem j2_iald {a n0 : Nat} {f : Nat → Int} {i : Int} (ha : h a = some (pA 0 n0 f)) (hi : 0 ≤ i ∧ i < (n0 : Int)) (hdg : decode cc pc = .ok (.iaload, 1)) (kk : J Γ A (Rep2 Γ A K) l own nm cc nL ret hh d mc ms QP XP cl sl h (pc + 1) lo (IV (f i.toNat) :: st)) : J Γ A (Rep2 Γ A K) l own nm cc nL ret hh d mc ms QP XP cl sl h pc lo (IV i :: .ref a :: st) := by
  intro p e s m args below meth c H locs ls k n F hR hS hl h1 h2
  obtain ⟨g, hR1, hL⟩ := hR
  exact jw_iald F (hR1 a _ (hL a _ ha).1).2 hi hdg (kk p e s m args below meth c H locs ls k n F ⟨g, hR1, hL⟩ hS hl h1 h2)
theorem j2_zald {a n0 : Nat} {f : Nat → Int} {i : Int} (ha : h a = some (pA 1 n0 f)) (hi : 0 ≤ i ∧ i < (n0 : Int)) (hdg : decode cc pc = .ok (.baload, 1)) (kk : J Γ A (Rep2 Γ A K) l own nm cc nL ret hh d mc ms QP XP cl sl h (pc + 1) lo (IV (f i.toNat) :: st)) : J Γ A (Rep2 Γ A K) l own nm cc nL ret hh d mc ms QP XP cl sl h pc lo (IV i :: .ref a :: st) := by
  intro p e s m args below meth c H locs ls k n F hR hS hl h1 h2
  obtain ⟨g, hR1, hL⟩ := hR
  exact jw_zald F (hR1 a _ (hL a _ ha).1).2 hi hdg (kk p e s m args below meth c H locs ls k n F ⟨g, hR1, hL⟩ hS hl h1 h2)
theorem j2_bald {a n0 : Nat} {f : Nat → Int} {i : Int} (ha : h a = some (pA 2 n0 f)) (hi : 0 ≤ i ∧ i < (n0 : Int)) (hdg : decode cc pc = .ok (.baload, 1)) (kk : J Γ A (Rep2 Γ A K) l own nm cc nL ret hh d mc ms QP XP cl sl h (pc + 1) lo (IV (f i.toNat) :: st)) : J Γ A (Rep2 Γ A K) l own nm cc nL ret hh d mc ms QP XP cl sl h pc lo (IV i :: .ref a :: st) := by
  intro p e s m args below meth c H locs ls k n F hR hS hl h1 h2
  obtain ⟨g, hR1, hL⟩ := hR
  exact jw_bald F (hR1 a _ (hL a _ ha).1).2 hi hdg (kk p e s m args below meth c H locs ls k n F ⟨g, hR1, hL⟩ hS hl h1 h2)
theorem j2_iast {a n0 : Nat} {f : Nat → Int} {i v : Int} (ha : h a = some (pA 0 n0 f)) (hi : 0 ≤ i ∧ i < (n0 : Int)) (hdg : decode cc pc = .ok (.iastore, 1)) (kk : ∀ h' : AL2, h' = upH h a (pA 0 n0 (uA f i.toNat v)) → J Γ A (Rep2 Γ A K) l own nm cc nL ret hh d mc ms QP XP cl sl h' (pc + 1) lo st) : J Γ A (Rep2 Γ A K) l own nm cc nL ret hh d mc ms QP XP cl sl h pc lo (IV v :: IV i :: .ref a :: st) := by
  intro p e s m args below meth c H locs ls k n F hR hS hl h1 h2
  obtain ⟨g, hR1, hL⟩ := hR
  have g1 := (hL a _ ha).1
  exact jw_iast F (hR1 a _ g1).2 hi hS (hR1 a _ g1).1 hdg fun H1 locs1 e1 e2 e3 hS1 => kk _ rfl p e s m args below meth c H1 locs1 ls k n F ⟨_, hR1.set (c := aA 0 n0 (uA f i.toNat v)) g1 e1 e3, hL.set (c := aA 0 n0 (uA f i.toNat v)) ha trivial⟩ hS1 hl h1 h2
theorem j2_zast {a n0 : Nat} {f : Nat → Int} {i v : Int} (ha : h a = some (pA 1 n0 f)) (hi : 0 ≤ i ∧ i < (n0 : Int)) (hx : v = 0 ∨ v = 1) (hdg : decode cc pc = .ok (.bastore, 1)) (kk : ∀ h' : AL2, h' = upH h a (pA 1 n0 (uA f i.toNat v)) → J Γ A (Rep2 Γ A K) l own nm cc nL ret hh d mc ms QP XP cl sl h' (pc + 1) lo st) : J Γ A (Rep2 Γ A K) l own nm cc nL ret hh d mc ms QP XP cl sl h pc lo (IV v :: IV i :: .ref a :: st) := by
  intro p e s m args below meth c H locs ls k n F hR hS hl h1 h2
  obtain ⟨g, hR1, hL⟩ := hR
  have g1 := (hL a _ ha).1
  exact jw_zast F (hR1 a _ g1).2 hi hx hS (hR1 a _ g1).1 hdg fun H1 locs1 e1 e2 e3 hS1 => kk _ rfl p e s m args below meth c H1 locs1 ls k n F ⟨_, hR1.set (c := aA 1 n0 (uA f i.toNat v)) g1 e1 e3, hL.set (c := aA 1 n0 (uA f i.toNat v)) ha trivial⟩ hS1 hl h1 h2
theorem j2_bast {a n0 : Nat} {f : Nat → Int} {i v : Int} (ha : h a = some (pA 2 n0 f)) (hi : 0 ≤ i ∧ i < (n0 : Int)) (hx : narrow .byte (IV v) = IV v) (hdg : decode cc pc = .ok (.bastore, 1)) (kk : ∀ h' : AL2, h' = upH h a (pA 2 n0 (uA f i.toNat v)) → J Γ A (Rep2 Γ A K) l own nm cc nL ret hh d mc ms QP XP cl sl h' (pc + 1) lo st) : J Γ A (Rep2 Γ A K) l own nm cc nL ret hh d mc ms QP XP cl sl h pc lo (IV v :: IV i :: .ref a :: st) := by
  intro p e s m args below meth c H locs ls k n F hR hS hl h1 h2
  obtain ⟨g, hR1, hL⟩ := hR
  have g1 := (hL a _ ha).1
  exact jw_bast F (hR1 a _ g1).2 hi hx hS (hR1 a _ g1).1 hdg fun H1 locs1 e1 e2 e3 hS1 => kk _ rfl p e s m args below meth c H1 locs1 ls k n F ⟨_, hR1.set (c := aA 2 n0 (uA f i.toNat v)) g1 e1 e3, hL.set (c := aA 2 n0 (uA f i.toNat v)) ha trivial⟩ hS1 hl h1 h2
theorem j2_alen {a t n0 : Nat} {f : Nat → Int} (ht : t = 0 ∨ t = 1 ∨ t = 2) (ha : h a = some (pA t n0 f)) (hdg : decode cc pc = .ok (.arraylength, 1)) (kk : J Γ A (Rep2 Γ A K) l own nm cc nL ret hh d mc ms QP XP cl sl h (pc + 1) lo (IV n0 :: st)) : J Γ A (Rep2 Γ A K) l own nm cc nL ret hh d mc ms QP XP cl sl h pc lo (.ref a :: st) := by
  intro p e s m args below meth c H locs ls k n F hR hS hl h1 h2
  obtain ⟨g, hR1, hL⟩ := hR
  exact jw_alen F ht (hR1 a _ (hL a _ ha).1).2 hdg (kk p e s m args below meth c H locs ls k n F ⟨g, hR1, hL⟩ hS hl h1 h2)
theorem j2_newa {t N : Nat} {i : Int} {atype : ArrayType} (hal : AL Γ A) (ht : t = 0 ∧ newarray.typeOf atype = .int ∨ t = 1 ∧ newarray.typeOf atype = .boolean ∨ t = 2 ∧ newarray.typeOf atype = .byte) (hq : Cond.arrayClass (newarray.typeOf atype) ∈ lw_all) (hi : 0 ≤ i) (hN : i = (N : Int)) (hsm : N < 100000000) (hdg : decode cc pc = .ok (.newarray atype, 2)) (kk : ∀ (a : Nat) (h' : AL2), h a = none → h' = upH h a (pA t N (fun _ => 0)) → J Γ A (Rep2 Γ A K) l own nm cc nL ret hh d mc ms QP XP cl sl h' (pc + 2) lo (.ref a :: st)) : J Γ A (Rep2 Γ A K) l own nm cc nL ret hh d mc ms QP XP (cl + 1) (sl + N) h pc lo (IV i :: st) := by
  intro p e s m args below meth c H locs ls k n F hR hS hl h1 h2
  obtain ⟨g, hR1, hL⟩ := hR
  refine jw_newa F ht hq hi hN hsm hS (by show k + 1 ≤ mc; omega) (by show n + N ≤ ms; omega) hdg fun H1 e1 z1 o1 hS1 => ?_
  have hA : A H.size := hal s H (GK.at hS F.2.2.2.2.2.2.2.2.1).2.1 _ (Nat.le_refl _)
  exact kk H.size _ (hL.fresh hR1.fresh) rfl p e s m args below meth c H1 locs ls (k + 1) (n + N) F ⟨_, hR1.push (c := aA t N (fun _ => 0)) hA e1 o1, hL.push (c := aA t N (fun _ => 0)) hR1.fresh trivial⟩ hS1 hl (by omega) (by omega)
theorem j2_new {idx ci N : Nat} {fs : List Value} (hal : AL Γ A) (h9 : ci ≠ 2 ∨ fs = [IV 0, .null, IV 0]) (hF : FN own idx ci N fs) (hdg : decode cc pc = .ok (.new idx, 3)) (kk : ∀ (a : Nat) (h' : AL2), h a = none → h' = upH h a (pO ci fs) → J Γ A (Rep2 Γ A K) l own nm cc nL ret hh d mc ms QP XP cl sl h' (pc + 3) lo (.ref a :: st)) : J Γ A (Rep2 Γ A K) l own nm cc nL ret hh d mc ms QP XP (cl + 1) (sl + N) h pc lo st := by
  intro p e s m args below meth c H locs ls k n F hR hS hl h1 h2
  obtain ⟨g, hR1, hL⟩ := hR
  refine jw_new F hF hS (by show k + 1 ≤ mc; omega) (by show n + N ≤ ms; omega) hdg fun H1 e1 z1 o1 hS1 => ?_
  have hA : A H.size := hal s H (GK.at hS F.2.2.2.2.2.2.2.2.1).2.1 _ (Nat.le_refl _)
  exact kk H.size _ (hL.fresh hR1.fresh) rfl p e s m args below meth c H1 locs ls (k + 1) (n + N) F ⟨_, hR1.push (c := aO ci fs) hA e1 o1, hL.push (c := aO ci fs) hR1.fresh h9⟩ hS1 hl (by omega) (by omega)
theorem j2_castS {a idx ci : Nat} {C : String} {fs : List Value} (hC : vwCl[ci]?.map (fun q => q.1) = some C) (hq : Cond.classLink own idx C ∈ lw_all) (ha : h a = some (pO ci fs)) (hdg : decode cc pc = .ok (.checkcast idx, 3)) (kk : J Γ A (Rep2 Γ A K) l own nm cc nL ret hh d mc ms QP XP cl sl h (pc + 3) lo (.ref a :: st)) : J Γ A (Rep2 Γ A K) l own nm cc nL ret hh d mc ms QP XP cl sl h pc lo (.ref a :: st) := by
  intro p e s m args below meth c H locs ls k n F hR hS hl h1 h2
  obtain ⟨g, hR1, hL⟩ := hR
  exact jw_castS F hC hq (hR1 a _ (hL a _ ha).1).2 hdg (kk p e s m args below meth c H locs ls k n F ⟨g, hR1, hL⟩ hS hl h1 h2)
theorem j2_castY {a idx ci : Nat} {C T : String} {fs : List Value} (hC : vwCl[ci]?.map (fun q => q.1) = some C) (hq : Cond.classLink own idx T ∈ lw_all) (hw : ∀ (s : State) (H : Heap), Γ.2.2 s H → va_Nw (.castable C T) s) (ha : h a = some (pO ci fs)) (hdg : decode cc pc = .ok (.checkcast idx, 3)) (kk : J Γ A (Rep2 Γ A K) l own nm cc nL ret hh d mc ms QP XP cl sl h (pc + 3) lo (.ref a :: st)) : J Γ A (Rep2 Γ A K) l own nm cc nL ret hh d mc ms QP XP cl sl h pc lo (.ref a :: st) := by
  intro p e s m args below meth c H locs ls k n F hR hS hl h1 h2
  obtain ⟨g, hR1, hL⟩ := hR
  exact jw_castY F hC hq (hw s s.heap F.2.2.2.2.2.2.2.2.1.2.1) (hR1 a _ (hL a _ ha).1).2 hdg (kk p e s m args below meth c H locs ls k n F ⟨g, hR1, hL⟩ hS hl h1 h2)
end J7
/-! lists -/
section L7
variable {Γ : GG} {A : Nat → Prop} {K : KK} {l : Launch} {h : AL2} {a : Nat} {xs : List Nat}
/-- an element, at layer 2 -/
def EL2 (Γ : GG) (C : String) (h : AL2) (y : Nat) : Prop := (∃ (ci : Nat) (fs : List Value), h y = some (pO ci fs) ∧ ci ≠ 2 ∧ vwCl[ci]?.map (fun q => q.1) = some C) ∨ ∀ (s : State) (H : Heap), Γ.2.2 s H → isC0 s H C y
theorem EL2.lo {C : String} {g : AH} {y : Nat} (hL : Lay K h g) (q : EL2 Γ C h y) : EL Γ C g y := by
  rcases q with ⟨ci, fs, h1, h2⟩ | q
  · exact Or.inl ⟨ci, fs, (hL y _ h1).1, h2⟩
  · exact Or.inr q
theorem nR {g : AH} {H : Heap} (hR : Rep1 Γ A g H) {b o n : Nat} {f : Nat → Option Nat} (hb : g b = some (aR o n f)) : n < 2147483648 := (hR b _ hb).2.1
theorem l2_len {g : AH} {H : Heap} (hR : Rep1 Γ A g H) {b n : Nat} {f : Nat → Option Nat} (h2 : xs.length ≤ n) (h4 : (1 ≤ n ∧ g b = some (aR a n f)) ∨ (b = K 0 ∧ n = 0)) : xs.length < 2147483648 := by
  rcases h4 with ⟨hn1, h4⟩ | h4
  · have := nR hR h4; omega
  · omega
theorem l2_size (ha : h a = some (pL xs)) : Ct Γ A (Rep2 Γ A K) l yJ2_size (ws_ yJ2_size cJ2_size 1 (some .int)) 1 0 0 [.ref a] h (qI (fun r h' => r = (xs.length : Int) ∧ h' = h)) X0 := by
  refine Ct.lift (Rep := Rep1 Γ A) fun s H hK ⟨g, hR, hL⟩ => ?_
  obtain ⟨m, b, n, f, h1, h2, h3, h4⟩ := hL a _ ha
  refine ⟨g, _, _, hR, l1_size g a b m _ h1, ?_, fun E z q => q.elim⟩
  rintro v z ⟨r, rfl, e1, rfl⟩ H1 hz
  exact ⟨h, ⟨r, rfl, e1, rfl⟩, _, hz, hL⟩
theorem l2_isEmpty (ha : h a = some (pL xs)) : Ct Γ A (Rep2 Γ A K) l yJ2_isEmpty (ws_ yJ2_isEmpty cJ2_isEmpty 1 (some .boolean)) 1 0 0 [.ref a] h (qI (fun r h' => r = bI ((xs.length : Int) = 0) ∧ h' = h)) X0 := by
  refine Ct.lift (Rep := Rep1 Γ A) fun s H hK ⟨g, hR, hL⟩ => ?_
  obtain ⟨m, b, n, f, h1, h2, h3, h4⟩ := hL a _ ha
  have := l2_len hR h2 h4
  refine ⟨g, _, _, hR, l1_isEmpty g a b m _ h1 (by omega), ?_, fun E z q => q.elim⟩
  rintro v z ⟨r, rfl, e1, rfl⟩ H1 hz
  exact ⟨h, ⟨r, rfl, e1, rfl⟩, _, hz, hL⟩
theorem l2_get (ha : h a = some (pL xs)) {i : Int} {v : Nat} (hi : 0 ≤ i) (hv : xs[i.toNat]? = some v) : Ct Γ A (Rep2 Γ A K) l yJ2_get (ws_ yJ2_get cJ2_get 2 (some (.object "java/lang/Object"))) 3 0 0 [.ref a, IV i] h (qR (fun r h' => r = v ∧ h' = h)) X0 := by
  refine Ct.lift (Rep := Rep1 Γ A) fun s H hK ⟨g, hR, hL⟩ => ?_
  obtain ⟨m, b, n, f, h1, h2, h3, h4⟩ := hL a _ ha
  have hl := (List.getElem?_eq_some_iff.mp hv).1
  rcases h4 with ⟨hn1, h4⟩ | h4
  · have := nR hR h4
    refine ⟨g, _, _, hR, l1_get g a b m _ h1 n f h4 i v ⟨hi, by omega⟩ (by omega) ⟨hi, by omega⟩ (h3 _ _ hv), ?_, fun E z q => q.elim⟩
    rintro w z ⟨r, rfl, e1, rfl⟩ H1 hz
    exact ⟨h, ⟨r, rfl, e1, rfl⟩, _, hz, hL⟩
  · omega
theorem Lay.at {g : AH} (hL : Lay K h g) {c : AC ⊕ List Nat} (ha : h a = some c) : ∃ c1, g a = some c1 ∧ ∀ o n f, c1 ≠ aR o n f := (hL a _ ha).has
theorem l2_init (hke : KE Γ A K) (ha : h a = some (pO 2 [IV 0, .null, IV 0])) : Ct Γ A (Rep2 Γ A K) l yJ2_init (ws_ yJ2_init cJ2_init 1 none) 4 0 0 [.ref a] h (qV (fun h' => h' = upH h a (pL []))) X0 := by
  refine Ct.lift (Rep := Rep1 Γ A) fun s H hK ⟨g, hR, hL⟩ => ?_
  have h1 := (hL a _ ha).1
  refine ⟨g, _, _, hR, l1_init g hke a h1, ?_, fun E z q => q.elim⟩
  rintro v z ⟨rfl, rfl⟩ H1 hz
  refine ⟨upH h a (pL []), ⟨rfl, rfl⟩, _, hz, hL.list ha ⟨0, K 0, 0, fun _ => none, upH_self _ _ _, Nat.le_refl _, fun i x hx => by simp at hx, Or.inr ⟨rfl, rfl⟩⟩ fun b c1 hb hne _ => ?_⟩
  rw [upH_ne hne]
  exact hb
theorem l2_clear (ha : h a = some (pL xs)) : Ct Γ A (Rep2 Γ A K) l yJ2_clear (ws_ yJ2_clear cJ2_clear 4 none) 1 0 0 [.ref a] h (qV (fun h' => h' = upH h a (pL []))) X0 := by
  refine Ct.lift (Rep := Rep1 Γ A) fun s H hK ⟨g, hR, hL⟩ => ?_
  obtain ⟨m, b, n, f, h1, h2, h3, h4⟩ := hL a _ ha
  rcases h4 with ⟨hn1, h4⟩ | ⟨h4, h5⟩
  · have hn := nR hR h4
    have hne : b ≠ a := fun e => by rw [e, h1] at h4; cases h4
    refine ⟨g, _, _, hR, l1_clear g a b m _ h1 n f h4 ⟨by omega, by omega⟩ hn, ?_, fun E z q => q.elim⟩
    rintro v z ⟨rfl, f', rfl⟩ H1 hz
    refine ⟨upH h a (pL []), ⟨rfl, rfl⟩, _, hz, hL.list ha ⟨m + 1, b, n, f', ?_, Nat.zero_le _, fun i x hx => by simp at hx, Or.inl ⟨hn1, upH_self _ _ _⟩⟩ fun z c1 hz9 hz1 hz2 => ?_⟩
    · rw [upH_ne (Ne.symm hne)]; exact upH_self _ _ _
    · rw [upH_ne (fun e => by rw [e, h4] at hz9; cases hz9; exact hz2 n f rfl), upH_ne hz1]; exact hz9
  · have hl0 : xs = [] := List.eq_nil_of_length_eq_zero (by omega)
    subst hl0
    refine ⟨g, _, _, hR, l1_clear0 g a b m h1, ?_, fun E z q => q.elim⟩
    rintro v z ⟨rfl, rfl⟩ H1 hz
    refine ⟨upH h a (pL []), ⟨rfl, rfl⟩, _, hz, hL.list ha ⟨m + 1, b, 0, fun _ => none, upH_self _ _ _, Nat.le_refl _, fun i x hx => by simp at hx, Or.inr ⟨h4, rfl⟩⟩ fun z c1 hz9 hz1 _ => ?_⟩
    rw [upH_ne hz1]; exact hz9
theorem app_at {α : Type} {xs : List α} {y : α} {i : Nat} {x : α} (h : (xs ++ [y])[i]? = some x) : (i < xs.length ∧ xs[i]? = some x) ∨ (i = xs.length ∧ x = y) := by
  by_cases hi : i < xs.length
  · rw [List.getElem?_append_left hi] at h
    exact Or.inl ⟨hi, h⟩
  · rw [List.getElem?_append_right (by omega)] at h
    have hz : i - xs.length < 1 := (List.getElem?_eq_some_iff.mp h).1
    have h0 : i = xs.length := by omega
    subst h0
    rw [Nat.sub_self] at h
    cases h
    exact Or.inr ⟨rfl, rfl⟩
theorem l2_add (hke : KE Γ A K) (ha : h a = some (pL xs)) {y : Nat} {C : String} (hca : KO Γ C) (hy : EL2 Γ C h y) (hel : ∀ z ∈ xs, EL2 Γ C h z) (hlen : xs.length ≤ 50000) (M : Nat) (hM : 10 + 2 * xs.length ≤ M) : Ct Γ A (Rep2 Γ A K) l yJ2_add (ws_ yJ2_add cJ2_add 2 (some .boolean)) 7 1 M [.ref a, .ref y] h (qI (fun r h' => r = 1 ∧ h' = upH h a (pL (xs ++ [y])))) X0 := by
  refine Ct.lift (Rep := Rep1 Γ A) fun s H hK ⟨g, hR, hL⟩ => ?_
  obtain ⟨m, b, n, f, h1, h2, h3, h4⟩ := hL a _ ha
  have hy1 := hy.lo hL
  have hln : (((xs ++ [y]).length : Nat) : Int) = (xs.length : Int) + 1 := by simp
  rcases h4 with ⟨hn1, h4⟩ | ⟨h4, h5⟩
  · have hn := nR hR h4
    have hne : b ≠ a := fun e => by rw [e, h1] at h4; cases h4
    by_cases hc : xs.length < n
    · refine ⟨g, _, _, hR, l1_addR g a b m _ h1 n f h4 ⟨by omega, by omega⟩ hn y C hca hy1 M, ?_, fun E z q => q.elim⟩
      rintro v z ⟨r, rfl, e1, rfl⟩ H1 hz
      refine ⟨_, ⟨r, rfl, e1, rfl⟩, _, hz, hL.list ha ⟨m + 1, b, n, _, by rw [upH_self, hln], by simp; omega, fun i x hx => ?_, Or.inl ⟨hn1, by rw [upH_ne hne]; exact upH_self _ _ _⟩⟩ fun z c1 hz9 hz1 hz2 => ?_⟩
      · rcases app_at hx with ⟨hi, hx⟩ | ⟨hi, hx⟩
        · show va_up f _ _ i = _
          unfold va_up
          rw [if_neg (by omega)]
          exact h3 i x hx
        · subst hx; subst hi
          show va_up f _ _ xs.length = _
          unfold va_up
          rw [if_pos (by omega)]
      · rw [upH_ne hz1, upH_ne (fun e => by rw [e, h4] at hz9; cases hz9; exact hz2 n f rfl)]; exact hz9
    · by_cases h0 : n = 0
      · omega
      · have hel1 : ∀ j : Nat, j < n → ∀ z : Nat, f j = some z → EL Γ C g z := fun j hj z hz => by
          have hj2 : j < xs.length := by omega
          have h9 := h3 j _ (List.getElem?_eq_getElem hj2)
          rw [h9] at hz
          cases hz
          exact (hel _ (List.getElem_mem hj2)).lo hL
        refine ⟨g, _, _, hR, l1_addF g hke a b m _ h1 n f h4 (by omega) (by omega) (by omega) M (by omega) y C hca hy1 hel1, ?_, fun E z q => q.elim⟩
        rintro v z ⟨r, rfl, e1, q, hq, rfl⟩ H1 hz
        have nq : q ≠ a := fun e => by rw [e, h1] at hq; cases hq
        refine ⟨_, ⟨r, rfl, e1, rfl⟩, _, hz, hL.list ha ⟨m + 1, q, n + max 1 (n / 2), _, by rw [upH_self, hln], by simp; omega, fun i x hx => ?_, Or.inl ⟨by omega, by rw [upH_ne nq]; exact upH_self _ _ _⟩⟩ fun z c1 hz9 hz1 hz2 => ?_⟩
        · rcases app_at hx with ⟨hi, hx⟩ | ⟨hi, hx⟩
          · show va_up _ n (some y) i = _
            unfold va_up
            rw [if_neg (by omega)]
            show (if i < n then f i else none) = _
            rw [if_pos (by omega)]
            exact h3 i x hx
          · subst hx; subst hi
            show va_up _ n (some _) xs.length = _
            unfold va_up
            rw [if_pos (by omega)]
        · rw [upH_ne hz1, upH_ne (fun e => by rw [e, hq] at hz9; cases hz9)]; exact hz9
  · have hx0 : xs = [] := List.eq_nil_of_length_eq_zero (by omega)
    subst hx0
    subst h4
    refine ⟨g, _, _, hR, l1_addE g hke a m h1 y C hca hy1 M (by omega), ?_, fun E z q => q.elim⟩
    rintro v z ⟨r, rfl, e1, q, hq, rfl⟩ H1 hz
    have nq : q ≠ a := fun e => by rw [e, h1] at hq; cases hq
    refine ⟨_, ⟨r, rfl, e1, rfl⟩, _, hz, hL.list ha ⟨m + 1, q, 10, _, by rw [upH_self]; rfl, by simp, fun i x hx => ?_, Or.inl ⟨by omega, by rw [upH_ne nq]; exact upH_self _ _ _⟩⟩ fun z c1 hz9 hz1 hz2 => ?_⟩
    · rcases app_at hx with ⟨hi, hx⟩ | ⟨hi, hx⟩
      · exact absurd hi (Nat.not_lt_zero _)
      · subst hx; subst hi
        rfl
    · rw [upH_ne hz1, upH_ne (fun e => by rw [e, hq] at hz9; cases hz9)]; exact hz9
theorem l2_indexOf (ha : h a = some (pL xs)) {y : Nat} (hy : EL2 Γ RX11 h y) {j : Nat} (hj : xs[j]? = some y) (hm : ∀ i : Nat, i < j → xs[i]? ≠ some y) : Ct Γ A (Rep2 Γ A K) l yJ2_indexOf (ws_ yJ2_indexOf cJ2_indexOf 2 (some .int)) 3 0 0 [.ref a, .ref y] h (qI (fun r h' => r = (j : Int) ∧ h' = h)) X0 := by
  refine Ct.lift (Rep := Rep1 Γ A) fun s H hK ⟨g, hR, hL⟩ => ?_
  obtain ⟨m, b, n, f, h1, h2, h3, h4⟩ := hL a _ ha
  have hl := (List.getElem?_eq_some_iff.mp hj).1
  rcases h4 with ⟨hn1, h4⟩ | h4
  · have hn := nR hR h4
    refine ⟨g, _, _, hR, l1_indexOf g a b m _ h1 n f h4 ⟨by omega, by omega⟩ hn y (hy.lo hL) (fun i => xs.getD i 0) (fun i hi => ?_) j ⟨by omega, ?_, fun i hi e => hm i hi ?_⟩, ?_, fun E z q => q.elim⟩
    · have hi2 : i < xs.length := by omega
      exact h3 i _ (by rw [List.getD_eq_getElem?_getD, List.getElem?_eq_getElem hi2]; rfl)
    · show xs.getD j 0 = y
      rw [List.getD_eq_getElem?_getD, hj]; rfl
    · have hi2 : i < xs.length := by omega
      rw [List.getElem?_eq_getElem hi2]
      rw [← e]
      show some _ = some (xs.getD i 0)
      rw [List.getD_eq_getElem?_getD, List.getElem?_eq_getElem hi2]; rfl
    · rintro w z ⟨r, rfl, e1, rfl⟩ H1 hz
      exact ⟨h, ⟨r, rfl, e1, rfl⟩, _, hz, hL⟩
  · omega
end L7
end FR7
