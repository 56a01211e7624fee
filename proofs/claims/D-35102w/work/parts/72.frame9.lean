set_option maxRecDepth 100000
section FR9
/-! the picture of a law's helper: the component's, and the array that takes the answer -/
abbrev LSt : Type := AL2 × Int
def cW (Γ : GG) (H : Heap) (ou : Nat) (w : Int) : Prop := ∃ f : Nat → Int, f 0 = w ∧ cOK Γ H ou (aA 4 1 f)
theorem cW.lt {Γ : GG} {H : Heap} {ou : Nat} {w : Int} (h : cW Γ H ou w) : ou < H.size := h.elim fun _ q => q.2.lt
theorem cW.kept {Γ : GG} {H H1 : Heap} {ou : Nat} {w : Int} (h : cW Γ H ou w) (hq : H1[ou]? = H[ou]?) : cW Γ H1 ou w := h.elim fun f q => ⟨f, q.1, q.2.kept hq⟩
def RepO (Γ : GG) (A : Nat → Prop) (K : KK) (ou : Nat) (x : LSt) (H : Heap) : Prop := Rep2 Γ A K x.1 H ∧ cW Γ H ou x.2
abbrev AO (A : Nat → Prop) (ou : Nat) : Nat → Prop := fun q => A q ∨ q = ou
theorem EC.less {E : State → Heap → Prop} {A A' : Nat → Prop} (hA : ∀ q, A q → A' q) (h : EC E A') : EC E A := ⟨h.1, fun s H H1 z1 z2 z3 => h.2 s H H1 z1 (fun q h1 h2 => z2 q h1 (fun w => h2 (hA q w))) z3⟩
theorem Ct.toO {Γ : GG} {A : Nat → Prop} {K : KK} {l : Launch} {ou : Nat} {y : MethodName} {ws : List Cond} {d mc ms : Nat} {as : List Value} {h : AL2} {w t res : Int} {Es : List String} {P F : AL2 → Prop} (hou : ¬ A ou) (hC : Ct Γ A (Rep2 Γ A K) l y ws d mc ms as h (qI (fun r h' => t = 0 ∧ r = res ∧ P h')) (fun E h' => xE Es t E ∧ F h')) :
    Ct Γ (AO A ou) (RepO Γ A K ou) l y ws d mc ms as (h, w) (qI (fun r x' => t = 0 ∧ r = res ∧ P x'.1)) (fun E x' => xE Es t E ∧ F x'.1) := by
  refine Ct.up (Γ := Γ) (A := A) (Rep := Rep2 Γ A K) (fun q hq => Or.inl hq) fun s H hK hR => ⟨⟨hK.1, hK.2.1, EC.less (fun q hq => Or.inl hq) hK.2.2⟩, h, _, _, hR.1, hC, ?_, ?_⟩
  · rintro v z ⟨r, e, h1, h2, h3⟩ H1 z1 z2 z3
    exact ⟨(z, w), ⟨r, e, h1, h2, h3⟩, z3, hR.2.kept (z2 ou hR.2.lt hou)⟩
  · rintro E z ⟨h1, h2⟩ H1 z1 z2 z3
    exact ⟨(z, w), ⟨h1, h2⟩, z3, hR.2.kept (z2 ou hR.2.lt hou)⟩
theorem RC.ofW {Γ : GG} {A : Nat → Prop} {K : KK} {ou : Nat} {x : LSt} {b ci : Nat} {fs : List Value} {C : String} (hb : x.1 b = some (pO ci fs)) (hC : vwCl[ci]?.map (fun q => q.1) = some C) : RC Γ (AO A ou) (RepO Γ A K ou) x b C := fun s H hK ⟨⟨h1, hR, hL⟩, _⟩ => jw_recv hK.1 hC (hR b _ (hL b _ hb).1).2
/-- the helper's end -/
abbrev hE (t res : Int) (P F : AL2 → Prop) : Option Value → LSt → Prop := qI (fun r (x : LSt) => r = t ∧ (t = 0 → x.2 = res ∧ P x.1) ∧ (t ≠ 0 → F x.1))
/-- what the handlers ask of the tables -/
def NXp (s : State) : Prop := va_Nw (.castable "java/lang/IndexOutOfBoundsException" "java/lang/IndexOutOfBoundsException") s ∧ va_Nw (.castable "java/lang/IllegalArgumentException" "java/lang/IllegalArgumentException") s ∧ va_Nw (.castable "java/lang/IllegalStateException" "java/lang/IllegalStateException") s ∧ va_Nc "java/lang/IllegalArgumentException" "java/lang/IndexOutOfBoundsException" s ∧ va_Nc "java/lang/IllegalStateException" "java/lang/IndexOutOfBoundsException" s ∧ va_Nc "java/lang/IllegalStateException" "java/lang/IllegalArgumentException" s
def NX (Γ : GG) : Prop := ∀ (s : State) (H : Heap), Γ.2.2 s H → NXp s
theorem xE1 {A1 E : String} {t : Int} (h : xE [A1] t E) : t = 1 ∧ A1 = E := by
  obtain ⟨h1, h2⟩ := h
  rcases e : t.toNat - 1 with _ | n
  · rw [e] at h2
    exact ⟨by omega, Option.some.inj h2⟩
  · rw [e] at h2
    cases h2
theorem xE2 {A1 A2 E : String} {t : Int} (h : xE [A1, A2] t E) : (t = 1 ∧ A1 = E) ∨ (t = 2 ∧ A2 = E) := by
  obtain ⟨h1, h2⟩ := h
  rcases e : t.toNat - 1 with _ | _ | n
  · rw [e] at h2
    exact Or.inl ⟨by omega, Option.some.inj h2⟩
  · rw [e] at h2
    exact Or.inr ⟨by omega, Option.some.inj h2⟩
  · rw [e] at h2
    cases h2
theorem xE3 {A1 A2 A3 E : String} {t : Int} (h : xE [A1, A2, A3] t E) : (t = 1 ∧ A1 = E) ∨ (t = 2 ∧ A2 = E) ∨ (t = 3 ∧ A3 = E) := by
  obtain ⟨h1, h2⟩ := h
  rcases e : t.toNat - 1 with _ | _ | _ | n
  · rw [e] at h2
    exact Or.inl ⟨by omega, Option.some.inj h2⟩
  · rw [e] at h2
    exact Or.inr (Or.inl ⟨by omega, Option.some.inj h2⟩)
  · rw [e] at h2
    exact Or.inr (Or.inr ⟨by omega, Option.some.inj h2⟩)
  · rw [e] at h2
    cases h2
theorem rrI (x : Int32) : RR x.toInt := ⟨by have := Int32.le_toInt x; simpa using this, by have := Int32.toInt_lt x; simpa using this⟩
theorem IVw (r : Int) : IV r = IV (iI r).toInt := by
  show Value.int (iI r) = Value.int (Int32.ofInt _)
  rw [Int32.ofInt_toInt]
section J9O
variable {Γ : GG} {A : Nat → Prop} {K : KK} {ou : Nat} {l : Launch} {own nm : String} {cc : ByteArray} {nL : Nat} {ret : Option FieldType} {hh : List (Nat × Nat × Nat × Nat)} {d mc ms : Nat} {QP : Option Value → LSt → Prop} {XP : String → LSt → Prop} {cl sl : Nat} {x : LSt} {pc : Nat} {lo : List (Option Value)} {st : List Value}
theorem j_lastO {v : Int} {v' : Int64} (hv : v' = Int64.ofInt v) (hdg : decode cc pc = .ok (.lastore, 1)) (kk : J Γ (AO A ou) (RepO Γ A K ou) l own nm cc nL ret hh d mc ms QP XP cl sl (x.1, v) (pc + 1) lo st) (hou : ¬ A ou) : J Γ (AO A ou) (RepO Γ A K ou) l own nm cc nL ret hh d mc ms QP XP cl sl x pc lo (.long v' :: IV 0 :: .ref ou :: st) := by
  intro p e s m args below meth c H locs ls k n F hR hS hl h1 h2
  subst hv
  obtain ⟨f, hf, hw⟩ := hR.2
  have hc : (1 : Nat) < 2147483648 ∧ H[ou]? = some (vp_cell (Γ.2.1 4) (1, .inr (.inl (fun j => Int64.ofInt (f j))))) := hw
  refine W.last F.1 F.2.1 hc.2 ((F.2.2.2.2.2.2.2.2.1.1.2 3 _ rfl).1 1 (fun j => .long (Int64.ofInt (f j)))) (fun q => by cases q) (by show ¬ (iI 0 < 0 ∨ (arrV _ _ _).slots.size ≤ _); rw [arrV_size]; exact iI_in (by omega) (by omega) hc.1) rfl rfl hdg fun H1 g z oq => ?_
  refine kk p e s m args below meth c H1 _ ls k n F ⟨hR.1.kept (fun q _ hq => oq q (fun w => hou (by rw [← w]; exact hq))), uA f 0 v, uA_self f 0 v, hc.1, ?_⟩ (hS.put z oq (Or.inr rfl)) hl h1 h2
  rw [iI_clamp ⟨by omega, by omega⟩] at g
  rw [g]
  show some ((vp_cell (Γ.2.1 4) (1, .inr (.inl (fun j => Int64.ofInt (f j))))).setSlot 0 (.long (Int64.ofInt v))) = some (vp_cell (Γ.2.1 4) (1, .inr (.inl (fun j => Int64.ofInt (uA f 0 v j)))))
  rw [vp_cell_l, vp_cell_l, arrV_store]
  congr 2
  funext q
  by_cases hq : q = 0
  · subst hq
    simp [updV, uA]
  · simp [updV, uA, hq]
end J9O
end FR9
