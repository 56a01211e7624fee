/-! FRAME 5: the reference's state -/
set_option maxRecDepth 100000
section FR5
/-- the numbers by field, the arrays by field -/
abbrev MM : Type := (Nat → Int) × (Nat → Nat → Int)
/-- an array field's length; 0: a number -/
def mN : Nat → Nat := fun k => match k with
  | 1 => 72
  | 2 => 36
  | 3 => 36
  | 4 => 5
  | 5 => 5
  | 7 => 20
  | 8 => 20
  | 10 => 540
  | 11 => 540
  | 12 => 540
  | 18 => 5
  | 20 => 20
  | 21 => 5
  | 22 => 20
  | 23 => 60
  | 24 => 60
  | 25 => 60
  | 27 => 100
  | 28 => 5
  | 29 => 240
  | 30 => 40
  | 31 => 5
  | 32 => 5
  | 33 => 4
  | 34 => 5
  | 35 => 5
  | 36 => 30
  | 39 => 1000
  | 40 => 1000
  | 41 => 1000
  | _ => 0
def mT : Nat → Nat := fun k => match k with
  | 1 => 1
  | 8 => 1
  | 22 => 1
  | _ => 0
def setI (σ : MM) (k : Nat) (v : Int) : MM := (fun j => if j = k then v else σ.1 j, σ.2)
def setA (σ : MM) (k i : Nat) (v : Int) : MM := (σ.1, fun j => if j = k then uA (σ.2 k) i v else σ.2 j)
theorem setI_1 (σ : MM) (k j : Nat) (v : Int) : (setI σ k v).1 j = if j = k then v else σ.1 j := rfl
theorem setI_2 (σ : MM) (k : Nat) (v : Int) : (setI σ k v).2 = σ.2 := rfl
theorem setA_1 (σ : MM) (k i : Nat) (v : Int) : (setA σ k i v).1 = σ.1 := rfl
theorem setA_2 (σ : MM) (k i j : Nat) (v : Int) : (setA σ k i v).2 j = if j = k then uA (σ.2 k) i v else σ.2 j := rfl
theorem uA_ap (f : Nat → Int) (k j : Nat) (v : Int) : uA f k v j = if j = k then v else f j := rfl
def mv (ad : Nat → Nat) (mi : Nat → Int) (k : Nat) : Value := if mN k = 0 then IV (mi k) else .ref (ad k)
def mfs (ad : Nat → Nat) (mi : Nat → Int) : List Value := (List.range 44).map (mv ad mi)
theorem mfs_at (ad : Nat → Nat) (mi : Nat → Int) {k : Nat} (hk : k < 44) : (mfs ad mi)[k]? = some (mv ad mi k) := by
  unfold mfs
  rw [List.getElem?_map, List.getElem?_range hk]
  rfl
theorem mfs_len (ad : Nat → Nat) (mi : Nat → Int) : (mfs ad mi).length = 44 := by unfold mfs; simp
theorem mfs_set (ad : Nat → Nat) (mi : Nat → Int) {k : Nat} (hk : k < 44) (hn : mN k = 0) (v : Int) : (mfs ad mi).set k (IV v) = mfs ad (fun j => if j = k then v else mi j) := by
  refine List.ext_getElem? fun j => ?_
  by_cases hj : j < 44
  · rw [mfs_at _ _ hj]
    by_cases e : k = j
    · subst e
      rw [List.getElem?_set_self (by rw [mfs_len]; exact hk)]
      simp [mv, hn]
    · rw [List.getElem?_set_ne e, mfs_at _ _ hj]
      simp [mv, Ne.symm e]
  · rw [List.getElem?_eq_none (by rw [List.length_set, mfs_len]; omega), List.getElem?_eq_none (by rw [mfs_len]; omega)]
def AM (o : Nat) (ad : Nat → Nat) : Nat → Prop := fun q => q = o ∨ ∃ k : Nat, k < 44 ∧ mN k ≠ 0 ∧ q = ad k
def RepM (Γ : GG) (o : Nat) (ad : Nat → Nat) (σ : MM) (H : Heap) : Prop := cOK Γ H o (aO 1 (mfs ad σ.1)) ∧ (∀ k : Nat, k < 44 → mN k ≠ 0 → cOK Γ H (ad k) (aA (mT k) (mN k) (σ.2 k))) ∧ (∀ k : Nat, k < 44 → mN k ≠ 0 → ad k ≠ o) ∧ ∀ j k : Nat, j < 44 → k < 44 → mN j ≠ 0 → mN k ≠ 0 → ad j = ad k → j = k
theorem RepM.putI {Γ : GG} {o : Nat} {ad : Nat → Nat} {σ : MM} {H H1 : Heap} {k : Nat} {v : Int} (hR : RepM Γ o ad σ H) (hk : k < 44) (hn : mN k = 0) (hc : va_at Γ.1 vwCl (o, .inr (1, (mfs ad σ.1).set k (IV v))) H1) (hq : ∀ q : Nat, q ≠ o → H1[q]? = H[q]?) : RepM Γ o ad (setI σ k v) H1 := by
  refine ⟨?_, fun j hj hjn => (hR.2.1 j hj hjn).kept (hq _ (hR.2.2.1 j hj hjn)), hR.2.2⟩
  show va_at Γ.1 vwCl (o, .inr (1, mfs ad (fun j => if j = k then v else σ.1 j))) H1
  rw [← mfs_set ad σ.1 hk hn v]
  exact hc
theorem RepM.putA {Γ : GG} {o : Nat} {ad : Nat → Nat} {σ : MM} {H H1 : Heap} {k i : Nat} {v : Int} (hR : RepM Γ o ad σ H) (hk : k < 44) (hn : mN k ≠ 0) (hc : cOK Γ H1 (ad k) (aA (mT k) (mN k) (uA (σ.2 k) i v))) (hq : ∀ q : Nat, q ≠ ad k → H1[q]? = H[q]?) : RepM Γ o ad (setA σ k i v) H1 := by
  refine ⟨hR.1.kept (hq _ (Ne.symm (hR.2.2.1 k hk hn))), fun j hj hjn => ?_, hR.2.2⟩
  by_cases e : j = k
  · subst e
    show cOK Γ H1 (ad j) (aA (mT j) (mN j) (if j = j then uA (σ.2 j) i v else σ.2 j))
    rw [if_pos rfl]
    exact hc
  · show cOK Γ H1 (ad j) (aA (mT j) (mN j) (if j = k then uA (σ.2 k) i v else σ.2 j))
    rw [if_neg e]
    exact (hR.2.1 j hj hjn).kept (hq _ (fun z => e (hR.2.2.2 j k hj hk hjn hn z)))
theorem RepM.kept {Γ : GG} {o : Nat} {ad : Nat → Nat} {σ : MM} {H H1 : Heap} (hR : RepM Γ o ad σ H) (hq : ∀ q : Nat, q < H.size → AM o ad q → H1[q]? = H[q]?) : RepM Γ o ad σ H1 :=
  ⟨hR.1.kept (hq _ hR.1.lt (Or.inl rfl)), fun j hj hjn => (hR.2.1 j hj hjn).kept (hq _ (hR.2.1 j hj hjn).lt (Or.inr ⟨j, hj, hjn, rfl⟩)), hR.2.2⟩
section J5
variable {Γ : GG} {o : Nat} {ad : Nat → Nat} {l : Launch} {own nm : String} {cc : ByteArray} {nL : Nat} {ret : Option FieldType} {hh : List (Nat × Nat × Nat × Nat)} {d mc ms : Nat} {QP : Option Value → MM → Prop} {XP : String → MM → Prop} {cl sl : Nat} {σ : MM} {pc : Nat} {lo : List (Option Value)} {st : List Value}
theorem RC.ofM (C : String) (hC : C = RX2) : RC Γ (AM o ad) (RepM Γ o ad) σ o C := fun s H hK hR => jw_recv (ci := 1) hK.1 (by rw [hC]; rfl) hR.1
theorem m_getI {idx k0 : Nat} {v : Int} (hF : FA own idx 1 k0) (hk : k0 < 44) (hn : mN k0 = 0) (hv : σ.1 k0 = v) (hdg : decode cc pc = .ok (.getfield idx, 3)) (kk : J Γ (AM o ad) (RepM Γ o ad) l own nm cc nL ret hh d mc ms QP XP cl sl σ (pc + 3) lo (IV v :: st)) : J Γ (AM o ad) (RepM Γ o ad) l own nm cc nL ret hh d mc ms QP XP cl sl σ pc lo (.ref o :: st) := by
  intro p e s m args below meth c H locs ls k n F hR hS hl h1 h2
  subst hv
  refine jw_get F hF hR.1 (v := IV (σ.1 k0)) ?_ hdg (kk p e s m args below meth c H locs ls k n F hR hS hl h1 h2)
  rw [mfs_at _ _ hk]
  simp [mv, hn]
theorem m_getA {idx k0 : Nat} (hF : FA own idx 1 k0) (hk : k0 < 44) (hn : mN k0 ≠ 0) (hdg : decode cc pc = .ok (.getfield idx, 3)) (kk : J Γ (AM o ad) (RepM Γ o ad) l own nm cc nL ret hh d mc ms QP XP cl sl σ (pc + 3) lo (.ref (ad k0) :: st)) : J Γ (AM o ad) (RepM Γ o ad) l own nm cc nL ret hh d mc ms QP XP cl sl σ pc lo (.ref o :: st) := by
  intro p e s m args below meth c H locs ls k n F hR hS hl h1 h2
  refine jw_get F hF hR.1 (v := .ref (ad k0)) ?_ hdg (kk p e s m args below meth c H locs ls k n F hR hS hl h1 h2)
  rw [mfs_at _ _ hk]
  simp [mv, hn]
theorem m_putI {idx k0 : Nat} {v : Int} (hF : FP own idx 1 k0 .int false) (hk : k0 < 44) (hn : mN k0 = 0) (hdg : decode cc pc = .ok (.putfield idx, 3)) (kk : J Γ (AM o ad) (RepM Γ o ad) l own nm cc nL ret hh d mc ms QP XP cl sl (setI σ k0 v) (pc + 3) lo st) : J Γ (AM o ad) (RepM Γ o ad) l own nm cc nL ret hh d mc ms QP XP cl sl σ pc lo (IV v :: .ref o :: st) := by
  intro p e s m args below meth c H locs ls k n F hR hS hl h1 h2
  exact jw_put F hF hR.1 (by rw [mfs_len]; exact hk) rfl rfl hS (Or.inl rfl) hdg fun H1 locs1 e1 e2 e3 hS1 => kk p e s m args below meth c H1 locs1 ls k n F (hR.putI hk hn e1 e3) hS1 hl h1 h2
theorem m_putZ {idx k0 : Nat} {v : Int} (hF : FP own idx 1 k0 .boolean false) (hk : k0 < 44) (hn : mN k0 = 0) (hz : v = 0 ∨ v = 1) (hdg : decode cc pc = .ok (.putfield idx, 3)) (kk : J Γ (AM o ad) (RepM Γ o ad) l own nm cc nL ret hh d mc ms QP XP cl sl (setI σ k0 v) (pc + 3) lo st) : J Γ (AM o ad) (RepM Γ o ad) l own nm cc nL ret hh d mc ms QP XP cl sl σ pc lo (IV v :: .ref o :: st) := by
  intro p e s m args below meth c H locs ls k n F hR hS hl h1 h2
  exact jw_put F hF hR.1 (by rw [mfs_len]; exact hk) (nar_Z hz) (fit_Z hz) hS (Or.inl rfl) hdg fun H1 locs1 e1 e2 e3 hS1 => kk p e s m args below meth c H1 locs1 ls k n F (hR.putI hk hn e1 e3) hS1 hl h1 h2
theorem m_ld {k0 : Nat} {i v : Int} (hk : k0 < 44) (hn : mN k0 ≠ 0) (ht : mT k0 = 0) (hi : 0 ≤ i ∧ i < (mN k0 : Int)) (hv : σ.2 k0 i.toNat = v) (hdg : decode cc pc = .ok (.iaload, 1)) (kk : J Γ (AM o ad) (RepM Γ o ad) l own nm cc nL ret hh d mc ms QP XP cl sl σ (pc + 1) lo (IV v :: st)) : J Γ (AM o ad) (RepM Γ o ad) l own nm cc nL ret hh d mc ms QP XP cl sl σ pc lo (IV i :: .ref (ad k0) :: st) := by
  intro p e s m args below meth c H locs ls k n F hR hS hl h1 h2
  subst hv
  have h9 := hR.2.1 k0 hk hn
  rw [ht] at h9
  exact jw_iald F h9 hi hdg (kk p e s m args below meth c H locs ls k n F hR hS hl h1 h2)
theorem m_zld {k0 : Nat} {i v : Int} (hk : k0 < 44) (hn : mN k0 ≠ 0) (ht : mT k0 = 1) (hi : 0 ≤ i ∧ i < (mN k0 : Int)) (hv : σ.2 k0 i.toNat = v) (hdg : decode cc pc = .ok (.baload, 1)) (kk : J Γ (AM o ad) (RepM Γ o ad) l own nm cc nL ret hh d mc ms QP XP cl sl σ (pc + 1) lo (IV v :: st)) : J Γ (AM o ad) (RepM Γ o ad) l own nm cc nL ret hh d mc ms QP XP cl sl σ pc lo (IV i :: .ref (ad k0) :: st) := by
  intro p e s m args below meth c H locs ls k n F hR hS hl h1 h2
  subst hv
  have h9 := hR.2.1 k0 hk hn
  rw [ht] at h9
  exact jw_zald F h9 hi hdg (kk p e s m args below meth c H locs ls k n F hR hS hl h1 h2)
theorem m_st {k0 : Nat} {i v : Int} (hk : k0 < 44) (hn : mN k0 ≠ 0) (ht : mT k0 = 0) (hi : 0 ≤ i ∧ i < (mN k0 : Int)) (hdg : decode cc pc = .ok (.iastore, 1)) (kk : J Γ (AM o ad) (RepM Γ o ad) l own nm cc nL ret hh d mc ms QP XP cl sl (setA σ k0 i.toNat v) (pc + 1) lo st) : J Γ (AM o ad) (RepM Γ o ad) l own nm cc nL ret hh d mc ms QP XP cl sl σ pc lo (IV v :: IV i :: .ref (ad k0) :: st) := by
  intro p e s m args below meth c H locs ls k n F hR hS hl h1 h2
  have h9 := hR.2.1 k0 hk hn
  rw [ht] at h9
  refine jw_iast F h9 hi hS (Or.inr ⟨k0, hk, hn, rfl⟩) hdg fun H1 locs1 e1 e2 e3 hS1 => kk p e s m args below meth c H1 locs1 ls k n F (hR.putA hk hn ?_ e3) hS1 hl h1 h2
  rw [ht]
  exact e1
theorem m_zst {k0 : Nat} {i v : Int} (hk : k0 < 44) (hn : mN k0 ≠ 0) (ht : mT k0 = 1) (hi : 0 ≤ i ∧ i < (mN k0 : Int)) (hx : v = 0 ∨ v = 1) (hdg : decode cc pc = .ok (.bastore, 1)) (kk : J Γ (AM o ad) (RepM Γ o ad) l own nm cc nL ret hh d mc ms QP XP cl sl (setA σ k0 i.toNat v) (pc + 1) lo st) : J Γ (AM o ad) (RepM Γ o ad) l own nm cc nL ret hh d mc ms QP XP cl sl σ pc lo (IV v :: IV i :: .ref (ad k0) :: st) := by
  intro p e s m args below meth c H locs ls k n F hR hS hl h1 h2
  have h9 := hR.2.1 k0 hk hn
  rw [ht] at h9
  refine jw_zast F h9 hi hx hS (Or.inr ⟨k0, hk, hn, rfl⟩) hdg fun H1 locs1 e1 e2 e3 hS1 => kk p e s m args below meth c H1 locs1 ls k n F (hR.putA hk hn ?_ e3) hS1 hl h1 h2
  rw [ht]
  exact e1
end J5
end FR5
