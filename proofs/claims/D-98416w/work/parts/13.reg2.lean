/-! rows of references: arrays of them, casts, copies, answers -/
set_option maxRecDepth 10000
section Reg2
variable {ε : Type} {C : VCx} {nL : Nat} {HP : WS × ε → Heap → List Loc → Nat → Nat → Prop} {Qf : State → Prop} {μ : WS} {z : ε} {pc : Nat} {lv : List (Nat × Value)} {st : List Value} {cc : ByteArray} {own : String} {D : va_G} {ac : Nat → ClassId} {ad : Nat → Nat} {kn : KN} {Ex : Heap → Prop}
theorem acon_r {ad : Nat → Nat} {t n : Nat} (h : 3 < t) (f : Nat → Int32) (g : Nat → Int64) (r : Nat → Option Nat) : acon ad t n f g r = (n, .inr (.inr (.inr (.inr (fun i => (r i).map ad))))) := by
  unfold acon
  rw [if_neg (by omega), if_neg (by omega)]
theorem vv_aald (hC : VOk C cc nL own) (hR : RegOk HP D ac ad kn Ex) (hK : KK D ac (vS C)) (j : Nat) {t n : Nat} {ty : FieldType} (ht : (tysAll ac)[t]? = some (ac t, ty)) (h3 : 3 < t) (hty : ty.isReference = true) (hj : kn j = some (.inr (t, n))) {i : Int32} (hin : vp_in i n) {b : Nat} (hb' : μ.2.2 j i.toNatClampNeg = some b) (d : decode cc pc = .ok (.aaload, 1))
    (kk : VV C nL HP Qf (μ, z) (pc + 1) lv (.ref (ad b) :: st)) : VV C nL HP Qf (μ, z) pc lv (.int i :: .ref (ad j) :: st) := by
  obtain ⟨p, l, e, R, s, m, args, below, meth, c⟩ := C
  intro H locs cells slots ls hH hl
  obtain ⟨hx, hb, hml, hown, hts⟩ := hC
  have hP : H[ad j]? = some (vp_cell (ac t) (acon ad t n (μ.1 j) (μ.2.1 j) (μ.2.2 j))) := hR.2.1 _ _ _ _ _ hH j _ hj
  rw [acon_r h3] at hP
  have hlt : i.toNatClampNeg < n := Nat.not_le.mp fun q => hin (Or.inr q)
  exact W.aald (v := .ref (ad b)) (ty := ty) hx hb hP ((hK.1.2 t _ ht).1 n (fun q => va_rf ((μ.2.2 j q).map ad))) hty (fun q => by cases q) (by show ¬ (i < 0 ∨ (arrV _ _ _).slots.size ≤ _); rw [arrV_size]; exact hin) (by show (arrV (ac t) n (fun q => va_rf ((μ.2.2 j q).map ad))).slots[_]? = _; rw [arrV_read _ _ hlt, hb']; rfl) rfl rfl d (kk H locs cells slots ls hH hl)
/-- a cell of a region, as an object of its class -/
theorem reg_obj (hR : RegOk HP D ac ad kn Ex) (hK : KK D ac (vS C)) {H : Heap} {locs : List Loc} {c n : Nat} (hH : HP (μ, z) H locs c n) {j ci N : Nat} {ft : Nat → FK} (hj : kn j = some (.inl (ci, N, ft))) {Cn : String} {T : u_T} (hc : clAll[ci]? = some (Cn, T, N)) : ∃ cell : Cell, H[ad j]? = some cell ∧ cell.vm.isStatics = false ∧ (vS C).vm.findClass Cn = some cell.cls := by
  obtain ⟨cell, g1, g2, g3, -⟩ : t_OB (ad j) (D.1 ci) N (D.2 ci) H (fval ad ft (μ.1 j) (μ.2.1 j) (μ.2.2 j)) := hR.2.1 _ _ _ _ _ hH j _ hj
  exact ⟨cell, g1, by rw [g3]; rfl, by rw [g2]; exact (hK.1.1 ci _ hc).2.1⟩
theorem vv_castS (hC : VOk C cc nL own) (hR : RegOk HP D ac ad kn Ex) (hK : KK D ac (vS C)) {j ci N : Nat} {ft : Nat → FK} (hj : kn j = some (.inl (ci, N, ft))) {Cn : String} {T : u_T} (hc : clAll[ci]? = some (Cn, T, N)) {index : Nat} (hw : Cond.classLink own index Cn ∈ lw_all) (d : decode cc pc = .ok (.checkcast index, 3)) (k : VV C nL HP Qf (μ, z) (pc + 3) lv (.ref (ad j) :: st)) : VV C nL HP Qf (μ, z) pc lv (.ref (ad j) :: st) := by
  have hq := fun H locs c n hH => reg_obj (C := C) (μ := μ) (z := z) hR hK (H := H) (locs := locs) (c := c) (n := n) hH hj hc
  obtain ⟨p, l, e, R, s, m, args, below, meth, c⟩ := C
  intro H locs cells slots ls hH hl
  exact va_castS hC.1 hC.2.1 hC.2.2.2.1 (hC.2.2.2.2 _ hw) (hK.1.1 ci _ hc).2 (hq H locs cells slots hH) d (k H locs cells slots ls hH hl)
theorem vv_instS (hC : VOk C cc nL own) (hR : RegOk HP D ac ad kn Ex) (hK : KK D ac (vS C)) {j ci N : Nat} {ft : Nat → FK} (hj : kn j = some (.inl (ci, N, ft))) {Cn : String} {T : u_T} (hc : clAll[ci]? = some (Cn, T, N)) {index : Nat} (hw : Cond.classLink own index Cn ∈ lw_all) (d : decode cc pc = .ok (.instanceof index, 3)) (k : VV C nL HP Qf (μ, z) (pc + 3) lv (.int 1 :: st)) : VV C nL HP Qf (μ, z) pc lv (.ref (ad j) :: st) := by
  have hq := fun H locs c n hH => reg_obj (C := C) (μ := μ) (z := z) hR hK (H := H) (locs := locs) (c := c) (n := n) hH hj hc
  obtain ⟨p, l, e, R, s, m, args, below, meth, c⟩ := C
  intro H locs cells slots ls hH hl
  exact va_instS hC.1 hC.2.1 hC.2.2.2.1 (hC.2.2.2.2 _ hw) (hK.1.1 ci _ hc).2 (hq H locs cells slots hH) d (k H locs cells slots ls hH hl)
theorem vv_castY (hC : VOk C cc nL own) (hR : RegOk HP D ac ad kn Ex) (hK : KK D ac (vS C)) {j ci N : Nat} {ft : Nat → FK} (hj : kn j = some (.inl (ci, N, ft))) {Cn nm : String} {T : u_T} (hc : clAll[ci]? = some (Cn, T, N)) {index : Nat} (hw : Cond.classLink own index nm ∈ lw_all) (hx : Cond.castable Cn nm ∈ kxW) (d : decode cc pc = .ok (.checkcast index, 3)) (k : VV C nL HP Qf (μ, z) (pc + 3) lv (.ref (ad j) :: st)) : VV C nL HP Qf (μ, z) pc lv (.ref (ad j) :: st) := by
  have hq := fun H locs c n hH => reg_obj (C := C) (μ := μ) (z := z) hR hK (H := H) (locs := locs) (c := c) (n := n) hH hj hc
  obtain ⟨p, l, e, R, s, m, args, below, meth, c⟩ := C
  intro H locs cells slots ls hH hl
  exact va_castY hC.1 hC.2.1 hC.2.2.2.1 (hC.2.2.2.2 _ hw) (hK.2.1.1 _ hx) (hq H locs cells slots hH) d (k H locs cells slots ls hH hl)
theorem vv_instN (hC : VOk C cc nL own) (hR : RegOk HP D ac ad kn Ex) (hK : KK D ac (vS C)) {j ci N : Nat} {ft : Nat → FK} (hj : kn j = some (.inl (ci, N, ft))) {Cn nm : String} {T : u_T} (hc : clAll[ci]? = some (Cn, T, N)) {index : Nat} (hw : Cond.classLink own index nm ∈ lw_all) (hx : (Cn, nm) ∈ kxN) (d : decode cc pc = .ok (.instanceof index, 3)) (k : VV C nL HP Qf (μ, z) (pc + 3) lv (.int 0 :: st)) : VV C nL HP Qf (μ, z) pc lv (.ref (ad j) :: st) := by
  have hq := fun H locs c n hH => reg_obj (C := C) (μ := μ) (z := z) hR hK (H := H) (locs := locs) (c := c) (n := n) hH hj hc
  obtain ⟨p, l, e, R, s, m, args, below, meth, c⟩ := C
  intro H locs cells slots ls hH hl
  exact va_instNo hC.1 hC.2.1 hC.2.2.2.1 (hC.2.2.2.2 _ hw) (hK.2.1.2.1 _ hx) (hq H locs cells slots hH) d (k H locs cells slots ls hH hl)
/-- an object goes into an array of its own class -/
theorem vv_aast (hC : VOk C cc nL own) (hR : RegOk HP D ac ad kn Ex) (hK : KK D ac (vS C)) (j : Nat) {t n : Nat} {Cn : String} {T : u_T} (ht : (tysAll ac)[t]? = some (ac t, .object Cn)) (h3 : 3 < t) (hj : kn j = some (.inr (t, n))) {b ci N : Nat} {ft : Nat → FK} (hb' : kn b = some (.inl (ci, N, ft))) (hc : clAll[ci]? = some (Cn, T, N)) {i : Int32} (hin : vp_in i n) (d : decode cc pc = .ok (.aastore, 1))
    (kk : VV C nL HP Qf (wsetR μ j i.toNatClampNeg (some b), z) (pc + 1) lv st) : VV C nL HP Qf (μ, z) pc lv (.ref (ad b) :: .int i :: .ref (ad j) :: st) := by
  obtain ⟨p, l, e, R, s, m, args, below, meth, c⟩ := C
  intro H locs cells slots ls hH hl
  obtain ⟨hx, hb, hml, hown, hts⟩ := hC
  have hP : H[ad j]? = some (vp_cell (ac t) (acon ad t n (μ.1 j) (μ.2.1 j) (μ.2.2 j))) := hR.2.1 _ _ _ _ _ hH j _ hj
  rw [acon_r h3] at hP
  have hlt : i.toNatClampNeg < n := Nat.not_le.mp fun q => hin (Or.inr q)
  have h0 : ¬ i < 0 := fun q => hin (Or.inl q)
  obtain ⟨cellV, g1, g2, g3, -⟩ : t_OB (ad b) (D.1 ci) N (D.2 ci) H (fval ad ft (μ.1 b) (μ.2.1 b) (μ.2.2 b)) := hR.2.1 _ _ _ _ _ hH b _ hb'
  have hcls := (hK.1.1 ci _ hc).2
  obtain ⟨kA, comp, k1, k2, k3, -⟩ := (hK.1.2 t _ ht).2
  have hcomp : comp = D.1 ci := Option.some.inj (k3.symm.trans hcls.1)
  subst hcomp
  obtain ⟨kC, hkC, -⟩ := hcls.2
  refine W.aast hx hb hP (fun q h => by cases h) (fun h => by cases h) k1 k2 rfl hkC ⟨h0, by show _ < (arrV _ _ _).slots.size; rw [arrV_size]; exact hlt⟩ g1 (fun q h => by rw [g3] at h; cases h) (by rw [g2]; exact hkC) (by rw [g2]; exact va_assign hcls) rfl rfl d fun H1 e1 e2 e3 => ?_
  refine kk H1 _ cells slots ls (reg_one hR hH hj (μ' := wsetR μ j i.toNatClampNeg (some b)) ?_ e2 e3 (wsetR_o μ j _ _)) hl
  show H1[ad j]? = some (vp_cell _ (acon ad t n _ _ _))
  rw [e1, acon_r h3]
  show some ((arrV (ac t) n (fun q => va_rf ((μ.2.2 j q).map ad))).setSlot _ _) = some (arrV (ac t) n (fun q => va_rf (((wsetR μ j i.toNatClampNeg (some b)).2.2 j q).map ad)))
  rw [arrV_store, wsetR_s]
  congr 2
  funext q
  by_cases hq : q = i.toNatClampNeg
  · subst hq
    simp [updV, va_rf]
  · simp [updV, hq]
theorem nn32 (w : Int32) (hz : ¬ w < 0) : w.toInt = (w.toNatClampNeg : Int) := by
  have hz0 : (0 : Int) ≤ w.toInt := by
    have := Int32.not_lt.mp hz
    simpa using Int32.le_iff_toInt_le.mp this
  show w.toInt = ((w.toInt.toNat : Nat) : Int)
  omega
def wcpy (μ : WS) (a b sp dp n : Nat) : WS := (fun x y => if x = b then va_cpy (μ.1 a) (μ.1 b) sp dp n y else μ.1 x y, μ.2)
def wcpyR (μ : WS) (a b sp dp n : Nat) : WS := (μ.1, μ.2.1, fun x y => if x = b then va_cpy (μ.2.2 a) (μ.2.2 b) sp dp n y else μ.2.2 x y)
theorem wcpy_o (μ : WS) (a b sp dp n : Nat) : ∀ j', j' ≠ b → (wcpy μ a b sp dp n).1 j' = μ.1 j' ∧ (wcpy μ a b sp dp n).2.1 j' = μ.2.1 j' ∧ (wcpy μ a b sp dp n).2.2 j' = μ.2.2 j' := by
  intro j' h
  refine ⟨?_, rfl, rfl⟩
  funext y
  simp [wcpy, h]
theorem wcpyR_o (μ : WS) (a b sp dp n : Nat) : ∀ j', j' ≠ b → (wcpyR μ a b sp dp n).1 j' = μ.1 j' ∧ (wcpyR μ a b sp dp n).2.1 j' = μ.2.1 j' ∧ (wcpyR μ a b sp dp n).2.2 j' = μ.2.2 j' := by
  intro j' h
  refine ⟨rfl, rfl, ?_⟩
  funext y
  simp [wcpyR, h]
def CpyW (own : String) (index : Nat) : Prop := Cond.methodLink own index arraycopyName ∈ lw_all ∧ Cond.native arraycopyName ∈ lw_all ∧ Cond.static arraycopyName ∈ lw_all ∧ Cond.initialized "java/lang/System" ∈ lw_all
theorem reg_many (hR : RegOk HP D ac ad kn Ex) {H H' : Heap} {locs : List Loc} {c n : Nat} (hH : HP (μ, z) H locs c n) {j : Nat} {kd : KD} (hj : kn j = some kd) {μ' : WS} (he : cellOK D ac ad (ad j) kd (μ'.1 j) (μ'.2.1 j) (μ'.2.2 j) H') (hs : H'.size = H.size) (oq : ∀ q : Nat, q ≠ ad j → H'[q]? = H[q]?) (ho : ∀ j', j' ≠ j → μ'.1 j' = μ.1 j' ∧ μ'.2.1 j' = μ.2.1 j' ∧ μ'.2.2 j' = μ.2.2 j') (L : List Loc) (hL : ∀ l ∈ L, l.base = ad j) : HP (μ', z) H' (locs ++ L) c n := by
  refine hR.2.2.1 (μ, z) H locs c n μ' H' L hH ((hR.2.1 _ _ _ _ _ hH).set hR.1 hj he oq ho) hs (fun q hq => oq q ?_) ?_
  · intro h; subst h; exact hq ⟨j, kd, hj, rfl⟩
  · intro l hl
    exact ⟨j, kd, hj, (hL l hl).symm⟩
theorem vv_acpyi (hC : VOk C cc nL own) (hR : RegOk HP D ac ad kn Ex) (hK : KK D ac (vS C)) {index : Nat} (hw : CpyW own index) (j0 j1 : Nat) {n0 n1 : Nat} (hj0 : kn j0 = some (.inr (0, n0))) (hj1 : kn j1 = some (.inr (0, n1))) {sp dp n : Int32} (h1 : ¬ sp < 0) (h2 : ¬ dp < 0) (h3 : ¬ n < 0) (h4 : sp.toNatClampNeg + n.toNatClampNeg ≤ n0) (h5 : dp.toNatClampNeg + n.toNatClampNeg ≤ n1)
    (hrm : 1 ≤ (vR C).frames ∧ (st.map fun v => v.category).sum + (nativeFrameWords "java/lang/System" "arraycopy" 5 + 11) ≤ (vR C).locals) (d : decode cc pc = .ok (.invokestatic index, 3)) (kk : VV C nL HP Qf (wcpy μ j0 j1 sp.toNatClampNeg dp.toNatClampNeg n.toNatClampNeg, z) (pc + 3) lv st) : VV C nL HP Qf (μ, z) pc lv (.int n :: .int dp :: .ref (ad j1) :: .int sp :: .ref (ad j0) :: st) := by
  obtain ⟨p, l, e, R, s, m, args, below, meth, c⟩ := C
  intro H locs cells slots ls hH hl
  obtain ⟨hx, hb, hml, hown, hts⟩ := hC
  have hc0 : H[ad j0]? = some (vp_cell (ac 0) (n0, .inl (μ.1 j0))) := hR.2.1 _ _ _ _ _ hH j0 _ hj0
  have hc1 : H[ad j1]? = some (vp_cell (ac 0) (n1, .inl (μ.1 j1))) := hR.2.1 _ _ _ _ _ hH j1 _ hj1
  obtain ⟨-, k0, hk0, cm0, hkk0⟩ := (hK.1.2 0 _ rfl).1 n0 (fun q => .int (μ.1 j0 q))
  obtain ⟨-, k1, hk1, cm1, hkk1⟩ := (hK.1.2 0 _ rfl).1 n1 (fun q => .int (μ.1 j1 q))
  intro T hT X
  obtain ⟨vm', X', step⟩ := X.arraycopy hx hown (hts _ hw.1) (hts _ hw.2.1) (hts _ hw.2.2.1) (hts _ hw.2.2.2) (src := ad j0) (dst := ad j1) (cs := vp_cell (ac 0) (n0, .inl (μ.1 j0))) (cd := vp_cell (ac 0) (n1, .inl (μ.1 j1))) (srcPos := sp) (destPos := dp) (n := n) (by rw [hT]; exact hc0) (by rw [hT]; exact hc1)
    (fun _ h => by cases h) (fun _ h => by cases h) (fun h => by cases h) (fun h => by cases h) hk0 hk1 hkk0 hkk1 (by simp [refKind]) h1 h2 h3
    (by rw [nn32 sp h1, nn32 n h3]; show ¬ _ > ((arrV (ac 0) n0 (fun q => .int (μ.1 j0 q))).slots.size : Int); rw [arrV_size]; omega)
    (by rw [nn32 dp h2, nn32 n h3]; show ¬ _ > ((arrV (ac 0) n1 (fun q => .int (μ.1 j1 q))).slots.size : Int); rw [arrV_size]; omega)
    (fun vm₁ _ i hi => by
      have e : (vp_cell (ac 0) (n0, .inl (μ.1 j0))).slots.getD (sp.toNatClampNeg + i) .null = .int (μ.1 j0 (sp.toNatClampNeg + i)) := by
        show (arrV (ac 0) n0 (fun q => .int (μ.1 j0 q))).slots.getD _ _ = _
        rw [Array.getD_eq_getD_getElem?, arrV_read _ _ (by omega)]
        rfl
      refine ⟨?_, ?_⟩
      · rw [e]; rfl
      · rw [e]; exact trivial)
    (g := F0 m pc ls (.int n :: .int dp :: .ref (ad j1) :: .int sp :: .ref (ad j0) :: st)) rfl (by rw [hml]; exact hl.1) (rest := st) rfl (by rw [hb]; exact d) hrm.1 (by show 2 * 0 + _ + _ ≤ _; have := hrm.2; simp only [vR] at this; omega)
  have e1 : copied (vp_cell (ac 0) (n0, .inl (μ.1 j0))) (vp_cell (ac 0) (n1, .inl (μ.1 j1))) sp dp n = vp_cell (ac 0) (n1, .inl (va_cpy (μ.1 j0) (μ.1 j1) sp.toNatClampNeg dp.toNatClampNeg n.toNatClampNeg)) := va_copied (fun z => .int z) (ac 0) (ac 0) (μ.1 j0) (μ.1 j1) h4
  rw [e1] at X' step
  have hlt : ad j1 < H.size := (Array.getElem?_eq_some_iff.mp hc1).1
  have hheap : ((T.setVm vm').setCell (ad j1) (vp_cell (ac 0) (n1, .inl (va_cpy (μ.1 j0) (μ.1 j1) sp.toNatClampNeg dp.toNatClampNeg n.toNatClampNeg)))).heap = H.setIfInBounds (ad j1) (vp_cell (ac 0) (n1, .inl (va_cpy (μ.1 j0) (μ.1 j1) sp.toNatClampNeg dp.toNatClampNeg n.toNatClampNeg))) := by rw [← hT]; rfl
  obtain ⟨t, a1, b1⟩ := kk _ _ cells slots ls (reg_many hR hH hj1 (μ' := wcpy μ j0 j1 sp.toNatClampNeg dp.toNatClampNeg n.toNatClampNeg) (show (H.setIfInBounds (ad j1) (vp_cell (ac 0) (n1, .inl (va_cpy (μ.1 j0) (μ.1 j1) sp.toNatClampNeg dp.toNatClampNeg n.toNatClampNeg))))[ad j1]? = some (vp_cell (ac 0) (acon ad 0 n1 _ _ _)) by
      simp only [Array.getElem?_setIfInBounds, hlt, if_true, acon, wcpy]
      rfl) (by simp) (fun q hq => by simp [Array.getElem?_setIfInBounds, Ne.symm hq]) (wcpy_o μ j0 j1 _ _ _) _ (fun l hm => by
      obtain ⟨w, -, hw⟩ := List.mem_map.mp hm
      rw [← hw])) hl _ hheap X'
  exact ⟨t, step t a1, b1⟩
end Reg2
