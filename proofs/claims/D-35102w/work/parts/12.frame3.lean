/-! FRAME 3: objects and arrays -/
set_option maxRecDepth 100000
section FR3
abbrev AC : Type := (Nat × List Value) ⊕ (Nat × Nat × (Nat → Int)) ⊕ (Nat × Nat × (Nat → Option Nat))
abbrev AH : Type := Nat → Option AC
abbrev aO (ci : Nat) (fs : List Value) : AC := .inl (ci, fs)
abbrev aA (t n : Nat) (f : Nat → Int) : AC := .inr (.inl (t, n, f))
abbrev aR (o n : Nat) (f : Nat → Option Nat) : AC := .inr (.inr (o, n, f))
def upH {α : Type} (h : Nat → Option α) (a : Nat) (c : α) : Nat → Option α := fun b => if b = a then some c else h b
theorem upH_self {α : Type} (h : Nat → Option α) (a : Nat) (c : α) : upH h a c a = some c := if_pos rfl
theorem upH_ne {α : Type} {h : Nat → Option α} {a b : Nat} {c : α} (e : b ≠ a) : upH h a c b = h b := if_neg e
theorem upH_old {α : Type} {h : Nat → Option α} {a b : Nat} {c c' : α} (hb : h b = some c') (ha : h a = none) : upH h a c b = some c' := by
  rw [upH_ne (fun e => by rw [e, ha] at hb; cases hb)]
  exact hb
def uA (f : Nat → Int) (k : Nat) (v : Int) : Nat → Int := fun j => if j = k then v else f j
theorem uA_self (f : Nat → Int) (k : Nat) (v : Int) : uA f k v k = v := if_pos rfl
theorem uA_ne {f : Nat → Int} {k j : Nat} {v : Int} (e : j ≠ k) : uA f k v j = f j := if_neg e
def aCell (cA : ClassId) (t n : Nat) (f : Nat → Int) : Cell := match t with
  | 4 => vp_cell cA (n, .inr (.inl (fun j => Int64.ofInt (f j))))
  | _ => vp_cell cA (n, .inl (fun j => iI (f j)))
def cOK (Γ : GG) (H : Heap) (a : Nat) (c : AC) : Prop := match c with
  | .inl o => va_at Γ.1 vwCl (a, .inr o) H
  | .inr (.inl q) => q.2.1 < 2147483648 ∧ H[a]? = some (aCell (Γ.2.1 q.1) q.1 q.2.1 q.2.2)
  | .inr (.inr q) => q.2.1 < 2147483648 ∧ H[a]? = some (vp_cell (Γ.2.1 5) (q.2.1, .inr (.inr (.inr (.inr q.2.2)))))
theorem cOK.kept {Γ : GG} {H H1 : Heap} {a : Nat} {c : AC} (h : cOK Γ H a c) (hq : H1[a]? = H[a]?) : cOK Γ H1 a c := by
  rcases c with o | q | q
  · exact va_at.kept (q := (a, .inr o)) h hq
  · exact ⟨h.1, hq.trans h.2⟩
  · exact ⟨h.1, hq.trans h.2⟩
theorem cOK.lt {Γ : GG} {H : Heap} {a : Nat} {c : AC} (h : cOK Γ H a c) : a < H.size := by
  rcases c with o | q | q
  · exact va_at.lt (q := (a, .inr o)) h
  · exact (Array.getElem?_eq_some_iff.mp h.2).1
  · exact (Array.getElem?_eq_some_iff.mp h.2).1
def Rep1 (Γ : GG) (A : Nat → Prop) (h : AH) (H : Heap) : Prop := ∀ (a : Nat) (c : AC), h a = some c → A a ∧ cOK Γ H a c
theorem Rep1.set {Γ : GG} {A : Nat → Prop} {h : AH} {H H1 : Heap} {a : Nat} {c0 c : AC} (hR : Rep1 Γ A h H) (ha : h a = some c0) (hc : cOK Γ H1 a c) (hq : ∀ q : Nat, q ≠ a → H1[q]? = H[q]?) : Rep1 Γ A (upH h a c) H1 := by
  intro b c' hb
  by_cases e : b = a
  · subst e
    rw [upH_self] at hb
    cases hb
    exact ⟨(hR b c0 ha).1, hc⟩
  · rw [upH_ne e] at hb
    exact ⟨(hR b c' hb).1, (hR b c' hb).2.kept (hq b e)⟩
theorem Rep1.push {Γ : GG} {A : Nat → Prop} {h : AH} {H H1 : Heap} {c : AC} (hR : Rep1 Γ A h H) (hA : A H.size) (hc : cOK Γ H1 H.size c) (hq : ∀ q : Nat, q < H.size → H1[q]? = H[q]?) : Rep1 Γ A (upH h H.size c) H1 := by
  intro b c' hb
  by_cases e : b = H.size
  · subst e
    rw [upH_self] at hb
    cases hb
    exact ⟨hA, hc⟩
  · rw [upH_ne e] at hb
    exact ⟨(hR b c' hb).1, (hR b c' hb).2.kept (hq b (hR b c' hb).2.lt)⟩
theorem Rep1.fresh {Γ : GG} {A : Nat → Prop} {h : AH} {H : Heap} (hR : Rep1 Γ A h H) : h H.size = none := by
  cases e : h H.size with
  | none => rfl
  | some c => exact absurd (hR _ _ e).2.lt (Nat.lt_irrefl _)
theorem Rep1.mono {Γ : GG} {A : Nat → Prop} {h h' : AH} {H : Heap} (hR : Rep1 Γ A h H) (hs : ∀ (a : Nat) (c : AC), h' a = some c → h a = some c) : Rep1 Γ A h' H := fun a c e => hR a c (hs a c e)
theorem va_P1 {D : va_G} {cl : List vw_C} {a : Nat} {e : va_E} {H : Heap} (h : va_at D cl (a, e) H) : va_P D cl [(a, e)] H := by
  intro j q hj
  have hz : j < 1 := (List.getElem?_eq_some_iff.mp hj).1
  rw [show j = 0 by omega] at hj
  cases hj
  exact h
/-- a field by its place in the pool -/
def FA (own : String) (idx ci k : Nat) : Prop := ∃ (C : String) (T : u_T) (N : Nat) (ref : String), vwCl[ci]? = some (C, T, N) ∧ (∀ w ∈ u_ws C T N, w ∈ lw_all) ∧ k < N ∧ Cond.fieldLink own idx ref (T k).2.1 (T k).2.2.1 ∈ lw_all ∧ (ref = (T k).1 ∨ Cond.sameField ref (T k).1 (T k).2.1 (T k).2.2.1 ∈ lw_all)
def FP (own : String) (idx ci k : Nat) (ty : FieldType) (fin : Bool) : Prop := ∃ (C : String) (T : u_T) (N : Nat) (ref : String) (ty0 : Nat → FieldType), vwCl[ci]? = some (C, T, N) ∧ (∀ w ∈ u_ws C T N, w ∈ lw_all) ∧ k < N ∧ Cond.fieldLink own idx ref (T k).2.1 (T k).2.2.1 ∈ lw_all ∧ (ref = (T k).1 ∨ Cond.sameField ref (T k).1 (T k).2.1 (T k).2.2.1 ∈ lw_all) ∧
  (∀ j, j < N → parseFieldDescriptor (T j).2.2.1 = some (ty0 j)) ∧ (∀ a, a < N → ∀ b, b < N → a ≠ b → (T a).2.1 ≠ (T b).2.1) ∧ ty0 k = ty ∧ (T k).2.2.2 = fin ∧ (fin = true → (T k).1 = own)
/-- a class that is made -/
def FN (own : String) (idx ci N : Nat) (fs : List Value) : Prop := ∃ (C : String) (T : u_T) (ty : Nat → FieldType), vwCl[ci]? = some (C, T, N) ∧ (∀ w ∈ u_ws C T N, w ∈ lw_all) ∧ (∀ j, j < N → parseFieldDescriptor (T j).2.2.1 = some (ty j)) ∧ Cond.classLink own idx C ∈ lw_all ∧ Cond.instantiable C N ∈ lw_all ∧ Cond.initialized C ∈ lw_all ∧ ∀ j, j < N → defaultValue (ty j) = vp_V fs j
/-- new cells may be made -/
def AL (Γ : GG) (A : Nat → Prop) : Prop := ∀ (s : State) (H : Heap), Γ.2.2 s H → ∀ q : Nat, H.size ≤ q → A q
section W3
variable {p : Program} {l : Launch} {e : Env} {R : Room} {s : State} {m : MethodId} {args : Array Value} {below : List Frame} {meth : Method} {c : Code} {H : Heap} {locs : List Loc} {cells slots : Nat} {Q : State → Prop}
variable {cc : ByteArray} {pc : Nat} {ls : Array Slot} {rest : List Value} {Γ : GG} {A : Nat → Prop} {a : Nat} {own nm : String} {nL : Nat} {ret : Option FieldType} {hh : List (Nat × Nat × Nat × Nat)}
theorem jw_get (F : JF Γ A own nm cc nL ret hh p s m args meth c) {idx ci k : Nat} {fs : List Value} (hF : FA own idx ci k) (hc : va_at Γ.1 vwCl (a, .inr (ci, fs)) H) {v : Value} (hv : fs[k]? = some v) (hdg : decode cc pc = .ok (.getfield idx, 3))
    (kk : W p l e R s m args below meth c H locs cells slots Q (F0 m (pc + 3) ls (v :: rest))) : W p l e R s m args below meth c H locs cells slots Q (F0 m pc ls (.ref a :: rest)) := by
  obtain ⟨C, T, N, ref, hcl, hin, hk, hq, hs⟩ := hF
  refine va_get F.1 F.2.1 F.2.2.2.2.2.2.1 hin F.2.2.2.2.2.1 F.2.2.2.2.2.2.2.2.1.1 (va_P1 hc) 0 rfl hcl k hk (F.2.2.2.2.2.2.1 _ hq) (fun x hx => ?_) hv hdg kk
  rcases hs with e1 | hs
  · rw [e1]; exact hx
  · exact u_same (F.2.2.2.2.2.2.1 _ hs) x hx
theorem jw_put (F : JF Γ A own nm cc nL ret hh p s m args meth c) {idx ci k : Nat} {fs : List Value} {ty : FieldType} {v : Value} (hF : FP own idx ci k ty false) (hc : va_at Γ.1 vwCl (a, .inr (ci, fs)) H) (hl : k < fs.length) (hn : narrow ty v = v) (hfit : fits ty v = true) (hS0 : va_S A s.heap H locs) (hA : A a) (hdg : decode cc pc = .ok (.putfield idx, 3))
    (kk : ∀ (H1 : Heap) (locs1 : List Loc), va_at Γ.1 vwCl (a, .inr (ci, fs.set k v)) H1 → H1.size = H.size → (∀ q : Nat, q ≠ a → H1[q]? = H[q]?) → va_S A s.heap H1 locs1 → W p l e R s m args below meth c H1 locs1 cells slots Q (F0 m (pc + 3) ls rest)) : W p l e R s m args below meth c H locs cells slots Q (F0 m pc ls (v :: .ref a :: rest)) := by
  obtain ⟨C, T, N, ref, ty0, hcl, hin, hk, hq, hs, hty, hnm, hd, hfin, -⟩ := hF
  have hts := F.2.2.2.2.2.2.1
  have hK := F.2.2.2.2.2.2.2.2.1.1
  have hown := F.2.2.2.2.2.1
  have hsame : ∀ x, s.fieldFound? (T k).1 (T k).2.1 (T k).2.2.1 = some x → s.fieldFound? ref (T k).2.1 (T k).2.2.1 = some x := fun x hx => by
    rcases hs with e1 | hs
    · rw [e1]; exact hx
    · exact u_same (hts _ hs) x hx
  have hap := va_apart (own := own) hts hin ty0 hty hnm hK hcl
  obtain ⟨r, h1, cell, q1, q2, q3, q4⟩ := hc
  have hr : r = (C, T, N) := Option.some.inj (h1.symm.trans hcl)
  subst hr
  obtain ⟨hS, hfc, kC, hkC, hkind⟩ := hK.1 ci _ hcl
  obtain ⟨cf, kf, fi, f, hi, hsl⟩ := hS k hk
  have hlay := hts _ (hin _ (u_in_lay hk))
  unfold u_lay at hlay
  rw [if_neg (by rw [hfin]; decide)] at hlay
  have hst := (u_facts hfc hkC (u_lays hts hin hk) hi).1
  have h6 := u_store hfc hkC hkind hlay hi (by rw [hty k hk, hd]) hn hfit
  refine W.putK F.1 F.2.1 (f := f) ⟨hown, hts _ hq, ⟨_, _, _, hsame _ hi⟩, hst⟩ (by rw [q2]; exact h6) q1 q3 (by rw [hsl]; exact k2_hasslot (q4 k hk)) rfl rfl hdg fun H' e1 e2 e3 => ?_
  rw [hsl] at e1 ⊢
  exact kk H' _ ⟨_, hcl, t_OB.to (V := updV (vp_V fs) k v) ⟨_, e1, q2, q3, t_set q4 hap hk v⟩ (fun j _ => vp_updV_set hl v j)⟩ e2 e3 (hS0.put e2 e3 hA)
theorem jw_putF (F : JF Γ A own nm cc nL ret hh p s m args meth c) (hin2 : nm = "<init>") {idx ci k : Nat} {fs : List Value} {ty : FieldType} {v : Value} (hF : FP own idx ci k ty true) (hc : va_at Γ.1 vwCl (a, .inr (ci, fs)) H) (hl : k < fs.length) (hn : narrow ty v = v) (hfit : fits ty v = true) (hS0 : va_S A s.heap H locs) (hA : A a) (hdg : decode cc pc = .ok (.putfield idx, 3))
    (kk : ∀ (H1 : Heap) (locs1 : List Loc), va_at Γ.1 vwCl (a, .inr (ci, fs.set k v)) H1 → H1.size = H.size → (∀ q : Nat, q ≠ a → H1[q]? = H[q]?) → va_S A s.heap H1 locs1 → W p l e R s m args below meth c H1 locs1 cells slots Q (F0 m (pc + 3) ls rest)) : W p l e R s m args below meth c H locs cells slots Q (F0 m pc ls (v :: .ref a :: rest)) := by
  obtain ⟨C, T, N, ref, ty0, hcl, hin, hk, hq, hs, hty, hnm, hd, hfin, hdecl⟩ := hF
  have hts := F.2.2.2.2.2.2.1
  have hK := F.2.2.2.2.2.2.2.2.1.1
  have hown := F.2.2.2.2.2.1
  have hsame : ∀ x, s.fieldFound? (T k).1 (T k).2.1 (T k).2.2.1 = some x → s.fieldFound? ref (T k).2.1 (T k).2.2.1 = some x := fun x hx => by
    rcases hs with e1 | hs
    · rw [e1]; exact hx
    · exact u_same (hts _ hs) x hx
  have hap := va_apart (own := own) hts hin ty0 hty hnm hK hcl
  obtain ⟨r, h1, cell, q1, q2, q3, q4⟩ := hc
  have hr : r = (C, T, N) := Option.some.inj (h1.symm.trans hcl)
  subst hr
  obtain ⟨hS, hfc, kC, hkC, hkind⟩ := hK.1 ci _ hcl
  obtain ⟨cf, kf, fi, f, hi, hsl⟩ := hS k hk
  have hlay := hts _ (hin _ (u_in_lay hk))
  unfold u_lay at hlay
  rw [if_pos hfin] at hlay
  have hst := (u_facts hfc hkC (u_lays hts hin hk) hi).1
  have hcf : m.cls = cf := by
    obtain ⟨_, _, c', _, _, _, -, -, hf', -, -, -, hown2, -⟩ := Cond.laysFinal_spec hlay
    have e1 : c' = cf := by have := hi.symm.trans hf'; simp at this; exact this.1.symm
    rw [hdecl rfl] at hown2
    rw [← e1]; exact Option.some.inj (hown.symm.trans hown2)
  have h6 := u_fits hfc hkC hkind (Or.inr hlay) hi (by rw [hty k hk, hd]) hn hfit
  refine W.putFinK F.1 F.2.1 hown (hts _ hq) (hsame _ hi) hst hcf (F.2.2.2.2.2.2.2.1.trans hin2) (by rw [q2]; exact h6) q1 q3 (by rw [hsl]; exact k2_hasslot (q4 k hk)) rfl rfl hdg fun H' e1 e2 e3 => ?_
  rw [hsl] at e1 ⊢
  exact kk H' _ ⟨_, hcl, t_OB.to (V := updV (vp_V fs) k v) ⟨_, e1, q2, q3, t_set q4 hap hk v⟩ (fun j _ => vp_updV_set hl v j)⟩ e2 e3 (hS0.put e2 e3 hA)
theorem jw_iald (F : JF Γ A own nm cc nL ret hh p s m args meth c) {n : Nat} {f : Nat → Int} {i : Int} (hc : n < 2147483648 ∧ H[a]? = some (aCell (Γ.2.1 0) 0 n f)) (hi : 0 ≤ i ∧ i < (n : Int)) (hdg : decode cc pc = .ok (.iaload, 1))
    (kk : W p l e R s m args below meth c H locs cells slots Q (F0 m (pc + 1) ls (IV (f i.toNat) :: rest))) : W p l e R s m args below meth c H locs cells slots Q (F0 m pc ls (IV i :: .ref a :: rest)) := by
  have hr : RR i := ⟨by omega, by omega⟩
  refine va_iald F.1 F.2.1 F.2.2.2.2.2.2.2.2.1.1 (va_P1 (e := .inl (Γ.2.1 0, n, .inl (fun j => iI (f j)))) hc.2) 0 0 rfl rfl (iI_in hi.1 hi.2 hc.1) hdg ?_
  rw [iI_clamp hr]
  exact kk
theorem jw_zald (F : JF Γ A own nm cc nL ret hh p s m args meth c) {n : Nat} {f : Nat → Int} {i : Int} (hc : n < 2147483648 ∧ H[a]? = some (aCell (Γ.2.1 1) 1 n f)) (hi : 0 ≤ i ∧ i < (n : Int)) (hdg : decode cc pc = .ok (.baload, 1))
    (kk : W p l e R s m args below meth c H locs cells slots Q (F0 m (pc + 1) ls (IV (f i.toNat) :: rest))) : W p l e R s m args below meth c H locs cells slots Q (F0 m pc ls (IV i :: .ref a :: rest)) := by
  have hr : RR i := ⟨by omega, by omega⟩
  refine va_zald F.1 F.2.1 F.2.2.2.2.2.2.2.2.1.1 (va_P1 (e := .inl (Γ.2.1 1, n, .inl (fun j => iI (f j)))) hc.2) 0 1 rfl rfl (iI_in hi.1 hi.2 hc.1) hdg ?_
  rw [iI_clamp hr]
  exact kk
theorem jw_bald (F : JF Γ A own nm cc nL ret hh p s m args meth c) {n : Nat} {f : Nat → Int} {i : Int} (hc : n < 2147483648 ∧ H[a]? = some (aCell (Γ.2.1 2) 2 n f)) (hi : 0 ≤ i ∧ i < (n : Int)) (hdg : decode cc pc = .ok (.baload, 1))
    (kk : W p l e R s m args below meth c H locs cells slots Q (F0 m (pc + 1) ls (IV (f i.toNat) :: rest))) : W p l e R s m args below meth c H locs cells slots Q (F0 m pc ls (IV i :: .ref a :: rest)) := by
  have hr : RR i := ⟨by omega, by omega⟩
  refine va_bald F.1 F.2.1 F.2.2.2.2.2.2.2.2.1.1 (va_P1 (e := .inl (Γ.2.1 2, n, .inl (fun j => iI (f j)))) hc.2) 0 2 rfl rfl (iI_in hi.1 hi.2 hc.1) hdg ?_
  rw [iI_clamp hr]
  exact kk
theorem jw_iast (F : JF Γ A own nm cc nL ret hh p s m args meth c) {n : Nat} {f : Nat → Int} {i x : Int} (hc : n < 2147483648 ∧ H[a]? = some (aCell (Γ.2.1 0) 0 n f)) (hi : 0 ≤ i ∧ i < (n : Int))  (hS : va_S A s.heap H locs) (hA : A a) (hdg : decode cc pc = .ok (.iastore, 1))
    (kk : ∀ (H1 : Heap) (locs1 : List Loc), (n < 2147483648 ∧ H1[a]? = some (aCell (Γ.2.1 0) 0 n (uA f i.toNat x))) → H1.size = H.size → (∀ q : Nat, q ≠ a → H1[q]? = H[q]?) → va_S A s.heap H1 locs1 → W p l e R s m args below meth c H1 locs1 cells slots Q (F0 m (pc + 1) ls rest)) : W p l e R s m args below meth c H locs cells slots Q (F0 m pc ls (IV x :: IV i :: .ref a :: rest)) := by
  have hr : RR i := ⟨by omega, by omega⟩
  refine W.iast F.1 F.2.1 hc.2 ((F.2.2.2.2.2.2.2.2.1.1.2 0 _ rfl).1 n (fun j => .int (iI (f j)))) (fun q => by cases q) (by show ¬ (iI i < 0 ∨ (arrV _ _ _).slots.size ≤ _); rw [arrV_size]; exact iI_in hi.1 hi.2 hc.1) rfl rfl hdg fun H1 e z oq => ?_
  refine kk H1 _ ⟨hc.1, ?_⟩ z oq (hS.put z oq hA)
  · rw [iI_clamp hr] at e
    rw [e]
    show some ((vp_cell (Γ.2.1 0) (n, .inl (fun j => iI (f j)))).setSlot i.toNat (.int (iI x))) = some (vp_cell (Γ.2.1 0) (n, .inl (fun j => iI (uA f i.toNat x j))))
    rw [vp_cell_i, vp_cell_i, arrV_store]
    congr 2
    funext q
    by_cases hq : q = i.toNat
    · subst hq
      simp [updV, uA]
    · simp [updV, uA, hq]
theorem jw_zast (F : JF Γ A own nm cc nL ret hh p s m args meth c) {n : Nat} {f : Nat → Int} {i x : Int} (hc : n < 2147483648 ∧ H[a]? = some (aCell (Γ.2.1 1) 1 n f)) (hi : 0 ≤ i ∧ i < (n : Int)) (hx : x = 0 ∨ x = 1) (hS : va_S A s.heap H locs) (hA : A a) (hdg : decode cc pc = .ok (.bastore, 1))
    (kk : ∀ (H1 : Heap) (locs1 : List Loc), (n < 2147483648 ∧ H1[a]? = some (aCell (Γ.2.1 1) 1 n (uA f i.toNat x))) → H1.size = H.size → (∀ q : Nat, q ≠ a → H1[q]? = H[q]?) → va_S A s.heap H1 locs1 → W p l e R s m args below meth c H1 locs1 cells slots Q (F0 m (pc + 1) ls rest)) : W p l e R s m args below meth c H locs cells slots Q (F0 m pc ls (IV x :: IV i :: .ref a :: rest)) := by
  have hr : RR i := ⟨by omega, by omega⟩
  have hx9 : narrow .boolean (.int (iI x)) = .int (iI x) := nar_Z hx
  refine W.zast F.1 F.2.1 hc.2 ((F.2.2.2.2.2.2.2.2.1.1.2 1 _ rfl).1 n (fun j => .int (iI (f j)))) (fun q => by cases q) (by show ¬ (iI i < 0 ∨ (arrV _ _ _).slots.size ≤ _); rw [arrV_size]; exact iI_in hi.1 hi.2 hc.1) rfl rfl hdg fun H1 e z oq => ?_
  refine kk H1 _ ⟨hc.1, ?_⟩ z oq (hS.put z oq hA)
  · rw [iI_clamp hr] at e
    rw [hx9] at e
    rw [e]
    show some ((vp_cell (Γ.2.1 1) (n, .inl (fun j => iI (f j)))).setSlot i.toNat (.int (iI x))) = some (vp_cell (Γ.2.1 1) (n, .inl (fun j => iI (uA f i.toNat x j))))
    rw [vp_cell_i, vp_cell_i, arrV_store]
    congr 2
    funext q
    by_cases hq : q = i.toNat
    · subst hq
      simp [updV, uA]
    · simp [updV, uA, hq]
theorem jw_bast (F : JF Γ A own nm cc nL ret hh p s m args meth c) {n : Nat} {f : Nat → Int} {i x : Int} (hc : n < 2147483648 ∧ H[a]? = some (aCell (Γ.2.1 2) 2 n f)) (hi : 0 ≤ i ∧ i < (n : Int)) (hx : narrow .byte (IV x) = IV x) (hS : va_S A s.heap H locs) (hA : A a) (hdg : decode cc pc = .ok (.bastore, 1))
    (kk : ∀ (H1 : Heap) (locs1 : List Loc), (n < 2147483648 ∧ H1[a]? = some (aCell (Γ.2.1 2) 2 n (uA f i.toNat x))) → H1.size = H.size → (∀ q : Nat, q ≠ a → H1[q]? = H[q]?) → va_S A s.heap H1 locs1 → W p l e R s m args below meth c H1 locs1 cells slots Q (F0 m (pc + 1) ls rest)) : W p l e R s m args below meth c H locs cells slots Q (F0 m pc ls (IV x :: IV i :: .ref a :: rest)) := by
  have hr : RR i := ⟨by omega, by omega⟩
  have hx9 : narrow .byte (.int (iI x)) = .int (iI x) := hx
  refine W.bast F.1 F.2.1 hc.2 ((F.2.2.2.2.2.2.2.2.1.1.2 2 _ rfl).1 n (fun j => .int (iI (f j)))) (fun q => by cases q) (by show ¬ (iI i < 0 ∨ (arrV _ _ _).slots.size ≤ _); rw [arrV_size]; exact iI_in hi.1 hi.2 hc.1) rfl rfl hdg fun H1 e z oq => ?_
  refine kk H1 _ ⟨hc.1, ?_⟩ z oq (hS.put z oq hA)
  · rw [iI_clamp hr] at e
    rw [hx9] at e
    rw [e]
    show some ((vp_cell (Γ.2.1 2) (n, .inl (fun j => iI (f j)))).setSlot i.toNat (.int (iI x))) = some (vp_cell (Γ.2.1 2) (n, .inl (fun j => iI (uA f i.toNat x j))))
    rw [vp_cell_i, vp_cell_i, arrV_store]
    congr 2
    funext q
    by_cases hq : q = i.toNat
    · subst hq
      simp [updV, uA]
    · simp [updV, uA, hq]
theorem jw_alen (F : JF Γ A own nm cc nL ret hh p s m args meth c) {t n : Nat} {f : Nat → Int} (ht : t = 0 ∨ t = 1 ∨ t = 2) (hc : n < 2147483648 ∧ H[a]? = some (aCell (Γ.2.1 t) t n f)) (hdg : decode cc pc = .ok (.arraylength, 1))
    (kk : W p l e R s m args below meth c H locs cells slots Q (F0 m (pc + 1) ls (IV n :: rest))) : W p l e R s m args below meth c H locs cells slots Q (F0 m pc ls (.ref a :: rest)) := by
  have hK := F.2.2.2.2.2.2.2.2.1.1
  rcases ht with rfl | rfl | rfl
  · exact va_alen (v := iI n) F.1 F.2.1 hK (va_P1 (e := .inl (Γ.2.1 0, n, .inl (fun j => iI (f j)))) hc.2) 0 0 rfl rfl (iI_nat n).symm hdg kk
  · exact va_alen (v := iI n) F.1 F.2.1 hK (va_P1 (e := .inl (Γ.2.1 1, n, .inl (fun j => iI (f j)))) hc.2) 0 1 rfl rfl (iI_nat n).symm hdg kk
  · exact va_alen (v := iI n) F.1 F.2.1 hK (va_P1 (e := .inl (Γ.2.1 2, n, .inl (fun j => iI (f j)))) hc.2) 0 2 rfl rfl (iI_nat n).symm hdg kk
theorem jw_alenR (F : JF Γ A own nm cc nL ret hh p s m args meth c) {n : Nat} {f : Nat → Option Nat} (hc : n < 2147483648 ∧ H[a]? = some (vp_cell (Γ.2.1 5) (n, .inr (.inr (.inr (.inr f)))))) (hdg : decode cc pc = .ok (.arraylength, 1))
    (kk : W p l e R s m args below meth c H locs cells slots Q (F0 m (pc + 1) ls (IV n :: rest))) : W p l e R s m args below meth c H locs cells slots Q (F0 m pc ls (.ref a :: rest)) := by
  exact va_alen (v := iI n) F.1 F.2.1 F.2.2.2.2.2.2.2.2.1.1 (va_P1 (e := .inl (Γ.2.1 5, n, .inr (.inr (.inr (.inr f))))) hc.2) 0 4 rfl rfl (iI_nat n).symm hdg kk
theorem jw_aald (F : JF Γ A own nm cc nL ret hh p s m args meth c) {n : Nat} {f : Nat → Option Nat} {i : Int} (hc : n < 2147483648 ∧ H[a]? = some (vp_cell (Γ.2.1 5) (n, .inr (.inr (.inr (.inr f)))))) (hi : 0 ≤ i ∧ i < (n : Int)) (hdg : decode cc pc = .ok (.aaload, 1))
    (kk : W p l e R s m args below meth c H locs cells slots Q (F0 m (pc + 1) ls (va_rf (f i.toNat) :: rest))) : W p l e R s m args below meth c H locs cells slots Q (F0 m pc ls (IV i :: .ref a :: rest)) := by
  have hr : RR i := ⟨by omega, by omega⟩
  have hlt : i.toNat < n := by omega
  refine W.aald (v := va_rf (f i.toNat)) F.1 F.2.1 hc.2 ((F.2.2.2.2.2.2.2.2.1.1.2 4 _ rfl).1 n (fun j => va_rf (f j))) rfl (fun q => by cases q) (by show ¬ (iI i < 0 ∨ (arrV _ _ _).slots.size ≤ _); rw [arrV_size]; exact iI_in hi.1 hi.2 hc.1) (by rw [iI_clamp hr]; show (arrV _ _ _).slots[_]? = _; rw [arrV_read _ _ hlt]) rfl rfl hdg kk
/-- a new array of numbers -/
theorem jw_newa (F : JF Γ A own nm cc nL ret hh p s m args meth c) {t N : Nat} {atype : ArrayType} (ht : t = 0 ∧ newarray.typeOf atype = .int ∨ t = 1 ∧ newarray.typeOf atype = .boolean ∨ t = 2 ∧ newarray.typeOf atype = .byte) (hq : Cond.arrayClass (newarray.typeOf atype) ∈ lw_all) {i : Int} (hi : 0 ≤ i) (hN : i = (N : Int)) (hsm : N < 100000000) (hS : va_S A s.heap H locs) (hcells : cells + 1 ≤ R.cells) (hslots : slots + N ≤ R.slots) (hdg : decode cc pc = .ok (.newarray atype, 2))
    (kk : ∀ H1 : Heap, (N < 2147483648 ∧ H1[H.size]? = some (aCell (Γ.2.1 t) t N (fun _ => 0))) → H1.size = H.size + 1 → (∀ q : Nat, q < H.size → H1[q]? = H[q]?) → va_S A s.heap H1 locs → W p l e R s m args below meth c H1 locs (cells + 1) (slots + N) Q (F0 m (pc + 2) ls (.ref H.size :: rest))) : W p l e R s m args below meth c H locs cells slots Q (F0 m pc ls (IV i :: rest)) := by
  have hr : RR i := ⟨by omega, by omega⟩
  have hK := F.2.2.2.2.2.2.2.2.1.1
  refine va_newaK F.1 F.2.1 (F.2.2.2.2.2.2.1 _ hq) rfl hdg rfl (N := N) ?_ ?_ ?_ hcells hslots rfl fun H1 cA e1 z1 o1 hAr hNm => ?_
  · rw [← iI_0, iI_lt hr ⟨by decide, by decide⟩]; omega
  · rw [iI_clamp hr]; omega
  · rcases ht with ⟨-, e⟩ | ⟨-, e⟩ | ⟨-, e⟩ <;> rw [e] <;> simp only [componentBytes] <;> omega
  · have hv : va_S A s.heap H1 locs := ⟨Nat.le_trans hS.1 (by omega), fun x h1 h2 => (o1 x (Nat.lt_of_lt_of_le h1 hS.1)).trans (hS.2.1 x h1 h2), hS.2.2⟩
    refine kk H1 ⟨by omega, ?_⟩ z1 o1 hv
    rcases ht with ⟨rfl, e⟩ | ⟨rfl, e⟩ | ⟨rfl, e⟩ <;> rw [e] at hNm e1
    · have h9 : cA = Γ.2.1 0 := Option.some.inj (hNm.symm.trans (hK.2 0 _ rfl).2)
      rw [e1, h9]; rfl
    · have h9 : cA = Γ.2.1 1 := Option.some.inj (hNm.symm.trans (hK.2 1 _ rfl).2)
      rw [e1, h9]; rfl
    · have h9 : cA = Γ.2.1 2 := Option.some.inj (hNm.symm.trans (hK.2 2 _ rfl).2)
      rw [e1, h9]; rfl
theorem jw_new (F : JF Γ A own nm cc nL ret hh p s m args meth c) {idx ci N : Nat} {fs : List Value} (hF : FN own idx ci N fs) (hS : va_S A s.heap H locs) (hcells : cells + 1 ≤ R.cells) (hslots : slots + N ≤ R.slots) (hdg : decode cc pc = .ok (.new idx, 3))
    (kk : ∀ H1 : Heap, va_at Γ.1 vwCl (H.size, .inr (ci, fs)) H1 → H1.size = H.size + 1 → (∀ q : Nat, q < H.size → H1[q]? = H[q]?) → va_S A s.heap H1 locs → W p l e R s m args below meth c H1 locs (cells + 1) (slots + N) Q (F0 m (pc + 3) ls (.ref H.size :: rest))) : W p l e R s m args below meth c H locs cells slots Q (F0 m pc ls rest) := by
  obtain ⟨C, T, ty, hcl, hin, hty, q1, q2, q3, hfs⟩ := hF
  have hts := F.2.2.2.2.2.2.1
  have hK := F.2.2.2.2.2.2.2.2.1.1
  have hKn := hK.1 ci _ hcl
  refine W.newcK F.1 F.2.1 F.2.2.2.2.2.1 (hts _ q1) (hts _ q2) (hts _ q3) rfl hdg hcells hslots hKn.2.1 rfl fun H1 kC hkC e1 z1 o1 => ?_
  exact kk H1 ⟨_, hcl, (u_born ty hts hin hKn hkC e1 hty).to hfs⟩ z1 o1 ⟨Nat.le_trans hS.1 (by omega), fun x h1 h2 => (o1 x (Nat.lt_of_lt_of_le h1 hS.1)).trans (hS.2.1 x h1 h2), hS.2.2⟩
theorem jw_recv (hK : va_K Γ.1 vwCl (tysG Γ) s) {ci : Nat} {C : String} {fs : List Value} (hC : vwCl[ci]?.map (fun q => q.1) = some C) (hc : va_at Γ.1 vwCl (a, .inr (ci, fs)) H) : ∃ cell : Cell, H[a]? = some cell ∧ cell.vm.isStatics = false ∧ s.vm.findClass C = some cell.cls := by
  obtain ⟨q, hq, e1⟩ : ∃ q, vwCl[ci]? = some q ∧ q.1 = C := by
    cases h : vwCl[ci]? with
    | none => rw [h] at hC; cases hC
    | some q => rw [h] at hC; exact ⟨q, rfl, Option.some.inj hC⟩
  subst e1
  exact va_recv hK (va_P1 hc) hq (q0 := 0) rfl
theorem jw_castS (F : JF Γ A own nm cc nL ret hh p s m args meth c) {idx ci : Nat} {C : String} {fs : List Value} (hC : vwCl[ci]?.map (fun q => q.1) = some C) (hq : Cond.classLink own idx C ∈ lw_all) (hc : va_at Γ.1 vwCl (a, .inr (ci, fs)) H) (hdg : decode cc pc = .ok (.checkcast idx, 3))
    (kk : W p l e R s m args below meth c H locs cells slots Q (F0 m (pc + 3) ls (.ref a :: rest))) : W p l e R s m args below meth c H locs cells slots Q (F0 m pc ls (.ref a :: rest)) := by
  have hK := F.2.2.2.2.2.2.2.2.1.1
  have hrv := jw_recv hK hC hc
  obtain ⟨q, hq1, e1⟩ : ∃ q, vwCl[ci]? = some q ∧ q.1 = C := by
    cases h : vwCl[ci]? with
    | none => rw [h] at hC; cases hC
    | some q => rw [h] at hC; exact ⟨q, rfl, Option.some.inj hC⟩
  subst e1
  exact va_castS F.1 F.2.1 F.2.2.2.2.2.1 (F.2.2.2.2.2.2.1 _ hq) (hK.1 ci _ hq1).2 hrv hdg kk
theorem jw_castY (F : JF Γ A own nm cc nL ret hh p s m args meth c) {idx ci : Nat} {C T : String} {fs : List Value} (hC : vwCl[ci]?.map (fun q => q.1) = some C) (hq : Cond.classLink own idx T ∈ lw_all) (hw : va_Nw (.castable C T) s) (hc : va_at Γ.1 vwCl (a, .inr (ci, fs)) H) (hdg : decode cc pc = .ok (.checkcast idx, 3))
    (kk : W p l e R s m args below meth c H locs cells slots Q (F0 m (pc + 3) ls (.ref a :: rest))) : W p l e R s m args below meth c H locs cells slots Q (F0 m pc ls (.ref a :: rest)) :=
  va_castY F.1 F.2.1 F.2.2.2.2.2.1 (F.2.2.2.2.2.2.1 _ hq) hw (jw_recv F.2.2.2.2.2.2.2.2.1.1 hC hc) hdg kk
end W3
section J1
variable {Γ : GG} {A : Nat → Prop} {l : Launch} {own nm : String} {cc : ByteArray} {nL : Nat} {ret : Option FieldType} {hh : List (Nat × Nat × Nat × Nat)} {d mc ms : Nat} {QP : Option Value → AH → Prop} {XP : String → AH → Prop} {cl sl : Nat} {h : AH} {pc : Nat} {lo : List (Option Value)} {st : List Value}
theorem j1_mono {h' : AH} (hs : ∀ (a : Nat) (c : AC), h' a = some c → h a = some c) (kk : J Γ A (Rep1 Γ A) l own nm cc nL ret hh d mc ms QP XP cl sl h' pc lo st) : J Γ A (Rep1 Γ A) l own nm cc nL ret hh d mc ms QP XP cl sl h pc lo st := by
  intro p e s m args below meth c H locs ls k n F hR hS hl h1 h2
  exact kk p e s m args below meth c H locs ls k n F (hR.mono hs) hS hl h1 h2
theorem j1_get {a idx ci k0 : Nat} {fs : List Value} {v : Value} (hF : FA own idx ci k0) (ha : h a = some (aO ci fs)) (hv : fs[k0]? = some v) (hdg : decode cc pc = .ok (.getfield idx, 3)) (kk : J Γ A (Rep1 Γ A) l own nm cc nL ret hh d mc ms QP XP cl sl h (pc + 3) lo (v :: st)) : J Γ A (Rep1 Γ A) l own nm cc nL ret hh d mc ms QP XP cl sl h pc lo (.ref a :: st) := by
  intro p e s m args below meth c H locs ls k n F hR hS hl h1 h2
  exact jw_get F hF (hR a _ ha).2 hv hdg (kk p e s m args below meth c H locs ls k n F hR hS hl h1 h2)
theorem j1_put {a idx ci k0 : Nat} {fs : List Value} {v : Value} {ty : FieldType} (hF : FP own idx ci k0 ty false) (ha : h a = some (aO ci fs)) (hlen : k0 < fs.length) (hn : narrow ty v = v) (hfit : fits ty v = true) (hdg : decode cc pc = .ok (.putfield idx, 3)) (kk : ∀ h' : AH, h' = upH h a (aO ci (fs.set k0 v)) → J Γ A (Rep1 Γ A) l own nm cc nL ret hh d mc ms QP XP cl sl h' (pc + 3) lo st) : J Γ A (Rep1 Γ A) l own nm cc nL ret hh d mc ms QP XP cl sl h pc lo (v :: .ref a :: st) := by
  intro p e s m args below meth c H locs ls k n F hR hS hl h1 h2
  exact jw_put F hF (hR a _ ha).2 hlen hn hfit hS (hR a _ ha).1 hdg fun H1 locs1 e1 e2 e3 hS1 => kk _ rfl p e s m args below meth c H1 locs1 ls k n F (hR.set ha e1 e3) hS1 hl h1 h2
theorem j1_putF {a idx ci k0 : Nat} {fs : List Value} {v : Value} {ty : FieldType} (hin : nm = "<init>") (hF : FP own idx ci k0 ty true) (ha : h a = some (aO ci fs)) (hlen : k0 < fs.length) (hn : narrow ty v = v) (hfit : fits ty v = true) (hdg : decode cc pc = .ok (.putfield idx, 3)) (kk : ∀ h' : AH, h' = upH h a (aO ci (fs.set k0 v)) → J Γ A (Rep1 Γ A) l own nm cc nL ret hh d mc ms QP XP cl sl h' (pc + 3) lo st) : J Γ A (Rep1 Γ A) l own nm cc nL ret hh d mc ms QP XP cl sl h pc lo (v :: .ref a :: st) := by
  intro p e s m args below meth c H locs ls k n F hR hS hl h1 h2
  exact jw_putF F hin hF (hR a _ ha).2 hlen hn hfit hS (hR a _ ha).1 hdg fun H1 locs1 e1 e2 e3 hS1 => kk _ rfl p e s m args below meth c H1 locs1 ls k n F (hR.set ha e1 e3) hS1 hl h1 h2
theorem j1_iald {a n0 : Nat} {f : Nat → Int} {i : Int} (ha : h a = some (aA 0 n0 f)) (hi : 0 ≤ i ∧ i < (n0 : Int)) (hdg : decode cc pc = .ok (.iaload, 1)) (kk : J Γ A (Rep1 Γ A) l own nm cc nL ret hh d mc ms QP XP cl sl h (pc + 1) lo (IV (f i.toNat) :: st)) : J Γ A (Rep1 Γ A) l own nm cc nL ret hh d mc ms QP XP cl sl h pc lo (IV i :: .ref a :: st) := by
  intro p e s m args below meth c H locs ls k n F hR hS hl h1 h2
  exact jw_iald F (hR a _ ha).2 hi hdg (kk p e s m args below meth c H locs ls k n F hR hS hl h1 h2)
theorem j1_zald {a n0 : Nat} {f : Nat → Int} {i : Int} (ha : h a = some (aA 1 n0 f)) (hi : 0 ≤ i ∧ i < (n0 : Int)) (hdg : decode cc pc = .ok (.baload, 1)) (kk : J Γ A (Rep1 Γ A) l own nm cc nL ret hh d mc ms QP XP cl sl h (pc + 1) lo (IV (f i.toNat) :: st)) : J Γ A (Rep1 Γ A) l own nm cc nL ret hh d mc ms QP XP cl sl h pc lo (IV i :: .ref a :: st) := by
  intro p e s m args below meth c H locs ls k n F hR hS hl h1 h2
  exact jw_zald F (hR a _ ha).2 hi hdg (kk p e s m args below meth c H locs ls k n F hR hS hl h1 h2)
theorem j1_bald {a n0 : Nat} {f : Nat → Int} {i : Int} (ha : h a = some (aA 2 n0 f)) (hi : 0 ≤ i ∧ i < (n0 : Int)) (hdg : decode cc pc = .ok (.baload, 1)) (kk : J Γ A (Rep1 Γ A) l own nm cc nL ret hh d mc ms QP XP cl sl h (pc + 1) lo (IV (f i.toNat) :: st)) : J Γ A (Rep1 Γ A) l own nm cc nL ret hh d mc ms QP XP cl sl h pc lo (IV i :: .ref a :: st) := by
  intro p e s m args below meth c H locs ls k n F hR hS hl h1 h2
  exact jw_bald F (hR a _ ha).2 hi hdg (kk p e s m args below meth c H locs ls k n F hR hS hl h1 h2)
theorem j1_iast {a n0 : Nat} {f : Nat → Int} {i v : Int} (ha : h a = some (aA 0 n0 f)) (hi : 0 ≤ i ∧ i < (n0 : Int)) (hdg : decode cc pc = .ok (.iastore, 1)) (kk : ∀ h' : AH, h' = upH h a (aA 0 n0 (uA f i.toNat v)) → J Γ A (Rep1 Γ A) l own nm cc nL ret hh d mc ms QP XP cl sl h' (pc + 1) lo st) : J Γ A (Rep1 Γ A) l own nm cc nL ret hh d mc ms QP XP cl sl h pc lo (IV v :: IV i :: .ref a :: st) := by
  intro p e s m args below meth c H locs ls k n F hR hS hl h1 h2
  exact jw_iast F (hR a _ ha).2 hi hS (hR a _ ha).1 hdg fun H1 locs1 e1 e2 e3 hS1 => kk _ rfl p e s m args below meth c H1 locs1 ls k n F (hR.set ha e1 e3) hS1 hl h1 h2
theorem j1_zast {a n0 : Nat} {f : Nat → Int} {i v : Int} (ha : h a = some (aA 1 n0 f)) (hi : 0 ≤ i ∧ i < (n0 : Int)) (hx : v = 0 ∨ v = 1) (hdg : decode cc pc = .ok (.bastore, 1)) (kk : ∀ h' : AH, h' = upH h a (aA 1 n0 (uA f i.toNat v)) → J Γ A (Rep1 Γ A) l own nm cc nL ret hh d mc ms QP XP cl sl h' (pc + 1) lo st) : J Γ A (Rep1 Γ A) l own nm cc nL ret hh d mc ms QP XP cl sl h pc lo (IV v :: IV i :: .ref a :: st) := by
  intro p e s m args below meth c H locs ls k n F hR hS hl h1 h2
  exact jw_zast F (hR a _ ha).2 hi hx hS (hR a _ ha).1 hdg fun H1 locs1 e1 e2 e3 hS1 => kk _ rfl p e s m args below meth c H1 locs1 ls k n F (hR.set ha e1 e3) hS1 hl h1 h2
theorem j1_bast {a n0 : Nat} {f : Nat → Int} {i v : Int} (ha : h a = some (aA 2 n0 f)) (hi : 0 ≤ i ∧ i < (n0 : Int)) (hx : narrow .byte (IV v) = IV v) (hdg : decode cc pc = .ok (.bastore, 1)) (kk : ∀ h' : AH, h' = upH h a (aA 2 n0 (uA f i.toNat v)) → J Γ A (Rep1 Γ A) l own nm cc nL ret hh d mc ms QP XP cl sl h' (pc + 1) lo st) : J Γ A (Rep1 Γ A) l own nm cc nL ret hh d mc ms QP XP cl sl h pc lo (IV v :: IV i :: .ref a :: st) := by
  intro p e s m args below meth c H locs ls k n F hR hS hl h1 h2
  exact jw_bast F (hR a _ ha).2 hi hx hS (hR a _ ha).1 hdg fun H1 locs1 e1 e2 e3 hS1 => kk _ rfl p e s m args below meth c H1 locs1 ls k n F (hR.set ha e1 e3) hS1 hl h1 h2
theorem j1_alen {a t n0 : Nat} {f : Nat → Int} (ht : t = 0 ∨ t = 1 ∨ t = 2) (ha : h a = some (aA t n0 f)) (hdg : decode cc pc = .ok (.arraylength, 1)) (kk : J Γ A (Rep1 Γ A) l own nm cc nL ret hh d mc ms QP XP cl sl h (pc + 1) lo (IV n0 :: st)) : J Γ A (Rep1 Γ A) l own nm cc nL ret hh d mc ms QP XP cl sl h pc lo (.ref a :: st) := by
  intro p e s m args below meth c H locs ls k n F hR hS hl h1 h2
  exact jw_alen F ht (hR a _ ha).2 hdg (kk p e s m args below meth c H locs ls k n F hR hS hl h1 h2)
theorem j1_alenR {a o9 n0 : Nat} {f : Nat → Option Nat} (ha : h a = some (aR o9 n0 f)) (hdg : decode cc pc = .ok (.arraylength, 1)) (kk : J Γ A (Rep1 Γ A) l own nm cc nL ret hh d mc ms QP XP cl sl h (pc + 1) lo (IV n0 :: st)) : J Γ A (Rep1 Γ A) l own nm cc nL ret hh d mc ms QP XP cl sl h pc lo (.ref a :: st) := by
  intro p e s m args below meth c H locs ls k n F hR hS hl h1 h2
  exact jw_alenR F (hR a _ ha).2 hdg (kk p e s m args below meth c H locs ls k n F hR hS hl h1 h2)
theorem j1_aald {a o9 n0 : Nat} {f : Nat → Option Nat} {i : Int} (ha : h a = some (aR o9 n0 f)) (hi : 0 ≤ i ∧ i < (n0 : Int)) (hdg : decode cc pc = .ok (.aaload, 1)) (kk : J Γ A (Rep1 Γ A) l own nm cc nL ret hh d mc ms QP XP cl sl h (pc + 1) lo (va_rf (f i.toNat) :: st)) : J Γ A (Rep1 Γ A) l own nm cc nL ret hh d mc ms QP XP cl sl h pc lo (IV i :: .ref a :: st) := by
  intro p e s m args below meth c H locs ls k n F hR hS hl h1 h2
  exact jw_aald F (hR a _ ha).2 hi hdg (kk p e s m args below meth c H locs ls k n F hR hS hl h1 h2)
theorem j1_newa {t N : Nat} {i : Int} {atype : ArrayType} (hal : AL Γ A) (ht : t = 0 ∧ newarray.typeOf atype = .int ∨ t = 1 ∧ newarray.typeOf atype = .boolean ∨ t = 2 ∧ newarray.typeOf atype = .byte) (hq : Cond.arrayClass (newarray.typeOf atype) ∈ lw_all) (hi : 0 ≤ i) (hN : i = (N : Int)) (hsm : N < 100000000) (hdg : decode cc pc = .ok (.newarray atype, 2)) (kk : ∀ (a : Nat) (h' : AH), h a = none → h' = upH h a (aA t N (fun _ => 0)) → J Γ A (Rep1 Γ A) l own nm cc nL ret hh d mc ms QP XP cl sl h' (pc + 2) lo (.ref a :: st)) : J Γ A (Rep1 Γ A) l own nm cc nL ret hh d mc ms QP XP (cl + 1) (sl + N) h pc lo (IV i :: st) := by
  intro p e s m args below meth c H locs ls k n F hR hS hl h1 h2
  refine jw_newa F ht hq hi hN hsm hS (by show k + 1 ≤ mc; omega) (by show n + N ≤ ms; omega) hdg fun H1 e1 z1 o1 hS1 => ?_
  have hA : A H.size := hal s H (GK.at hS F.2.2.2.2.2.2.2.2.1).2.1 _ (Nat.le_refl _)
  exact kk H.size _ hR.fresh rfl p e s m args below meth c H1 locs ls (k + 1) (n + N) F (hR.push hA e1 o1) hS1 hl (by omega) (by omega)
theorem j1_new {idx ci N : Nat} {fs : List Value} (hal : AL Γ A) (hF : FN own idx ci N fs) (hdg : decode cc pc = .ok (.new idx, 3)) (kk : ∀ (a : Nat) (h' : AH), h a = none → h' = upH h a (aO ci fs) → J Γ A (Rep1 Γ A) l own nm cc nL ret hh d mc ms QP XP cl sl h' (pc + 3) lo (.ref a :: st)) : J Γ A (Rep1 Γ A) l own nm cc nL ret hh d mc ms QP XP (cl + 1) (sl + N) h pc lo st := by
  intro p e s m args below meth c H locs ls k n F hR hS hl h1 h2
  refine jw_new F hF hS (by show k + 1 ≤ mc; omega) (by show n + N ≤ ms; omega) hdg fun H1 e1 z1 o1 hS1 => ?_
  have hA : A H.size := hal s H (GK.at hS F.2.2.2.2.2.2.2.2.1).2.1 _ (Nat.le_refl _)
  exact kk H.size _ hR.fresh rfl p e s m args below meth c H1 locs ls (k + 1) (n + N) F (hR.push hA e1 o1) hS1 hl (by omega) (by omega)
theorem j1_castS {a idx ci : Nat} {C : String} {fs : List Value} (hC : vwCl[ci]?.map (fun q => q.1) = some C) (hq : Cond.classLink own idx C ∈ lw_all) (ha : h a = some (aO ci fs)) (hdg : decode cc pc = .ok (.checkcast idx, 3)) (kk : J Γ A (Rep1 Γ A) l own nm cc nL ret hh d mc ms QP XP cl sl h (pc + 3) lo (.ref a :: st)) : J Γ A (Rep1 Γ A) l own nm cc nL ret hh d mc ms QP XP cl sl h pc lo (.ref a :: st) := by
  intro p e s m args below meth c H locs ls k n F hR hS hl h1 h2
  exact jw_castS F hC hq (hR a _ ha).2 hdg (kk p e s m args below meth c H locs ls k n F hR hS hl h1 h2)
end J1
end FR3
