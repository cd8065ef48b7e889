/-! copies of references; answers that are references -/
set_option maxRecDepth 10000
section Reg3
variable {ε : Type} {C : VCx} {nL : Nat} {HP : WS × ε → Heap → List Loc → Nat → Nat → Prop} {Qf : State → Prop} {μ : WS} {z : ε} {pc : Nat} {lv : List (Nat × Value)} {st : List Value} {cc : ByteArray} {own : String} {D : va_G} {ac : Nat → ClassId} {ad : Nat → Nat} {kn : KN} {Ex : Heap → Prop}
theorem vv_acpyq (hC : VOk C cc nL own) (hR : RegOk HP D ac ad kn Ex) (hK : KK D ac (vS C)) {index : Nat} (hw : CpyW own index) (j0 j1 : Nat) {t n0 n1 : Nat} (ht3 : 3 < t) {Cn : String} (ht : (tysAll ac)[t]? = some (ac t, .object Cn)) (hj0 : kn j0 = some (.inr (t, n0))) (hj1 : kn j1 = some (.inr (t, n1))) {sp dp n : Int32} (h1 : ¬ sp < 0) (h2 : ¬ dp < 0) (h3 : ¬ n < 0) (h4 : sp.toNatClampNeg + n.toNatClampNeg ≤ n0) (h5 : dp.toNatClampNeg + n.toNatClampNeg ≤ n1)
    {ci N : Nat} {T : u_T} (hc : clAll[ci]? = some (Cn, T, N)) (hel : ∀ i, i < n.toNatClampNeg → ∀ b, μ.2.2 j0 (sp.toNatClampNeg + i) = some b → ∃ ft, kn b = some (.inl (ci, N, ft)))
    (hrm : 1 ≤ (vR C).frames ∧ (st.map fun v => v.category).sum + (nativeFrameWords "java/lang/System" "arraycopy" 5 + 11) ≤ (vR C).locals) (d : decode cc pc = .ok (.invokestatic index, 3)) (kk : VV C nL HP Qf (wcpyR μ j0 j1 sp.toNatClampNeg dp.toNatClampNeg n.toNatClampNeg, z) (pc + 3) lv st) : VV C nL HP Qf (μ, z) pc lv (.int n :: .int dp :: .ref (ad j1) :: .int sp :: .ref (ad j0) :: st) := by
  have hq := fun H locs c n hH (j : Nat) (ft : Nat → FK) hj => reg_obj (C := C) (μ := μ) (z := z) hR hK (H := H) (locs := locs) (c := c) (n := n) hH (j := j) (ft := ft) hj hc
  obtain ⟨p, l, e, R, s, m, args, below, meth, c⟩ := C
  intro H locs cells slots ls hH hl
  obtain ⟨hx, hb, hml, hown, hts⟩ := hC
  have hc0 : H[ad j0]? = some (vp_cell (ac t) (acon ad t n0 (μ.1 j0) (μ.2.1 j0) (μ.2.2 j0))) := hR.2.1 _ _ _ _ _ hH j0 _ hj0
  have hc1 : H[ad j1]? = some (vp_cell (ac t) (acon ad t n1 (μ.1 j1) (μ.2.1 j1) (μ.2.2 j1))) := hR.2.1 _ _ _ _ _ hH j1 _ hj1
  rw [acon_r ht3] at hc0 hc1
  obtain ⟨-, k0, hk0, cm0, hkk0⟩ := (hK.1.2 t _ ht).1 n0 (fun q => va_rf ((μ.2.2 j0 q).map ad))
  obtain ⟨-, k1, hk1, cm1, hkk1⟩ := (hK.1.2 t _ ht).1 n1 (fun q => va_rf ((μ.2.2 j1 q).map ad))
  intro T0 hT X
  obtain ⟨vm', X', step⟩ := X.arraycopy hx hown (hts _ hw.1) (hts _ hw.2.1) (hts _ hw.2.2.1) (hts _ hw.2.2.2) (src := ad j0) (dst := ad j1) (cs := vp_cell (ac t) (n0, .inr (.inr (.inr (.inr (fun i => (μ.2.2 j0 i).map ad)))))) (cd := vp_cell (ac t) (n1, .inr (.inr (.inr (.inr (fun i => (μ.2.2 j1 i).map ad)))))) (srcPos := sp) (destPos := dp) (n := n) (by rw [hT]; exact hc0) (by rw [hT]; exact hc1)
    (fun _ h => by cases h) (fun _ h => by cases h) (fun h => by cases h) (fun h => by cases h) hk0 hk1 hkk0 hkk1 rfl h1 h2 h3
    (by rw [nn32 sp h1, nn32 n h3]; show ¬ _ > ((arrV (ac t) n0 (fun q => va_rf ((μ.2.2 j0 q).map ad))).slots.size : Int); rw [arrV_size]; omega)
    (by rw [nn32 dp h2, nn32 n h3]; show ¬ _ > ((arrV (ac t) n1 (fun q => va_rf ((μ.2.2 j1 q).map ad))).slots.size : Int); rw [arrV_size]; omega)
    (fun vm₁ hal i hi => by
      have e : (vp_cell (ac t) (n0, .inr (.inr (.inr (.inr (fun i => (μ.2.2 j0 i).map ad)))))).slots.getD (sp.toNatClampNeg + i) .null = va_rf ((μ.2.2 j0 (sp.toNatClampNeg + i)).map ad) := by
        show (arrV (ac t) n0 (fun q => va_rf ((μ.2.2 j0 q).map ad))).slots.getD _ _ = _
        rw [Array.getD_eq_getD_getElem?, arrV_read _ _ (by omega)]
        rfl
      rw [e]
      cases hy : μ.2.2 j0 (sp.toNatClampNeg + i) with
      | none => exact ⟨rfl, trivial⟩
      | some y =>
        obtain ⟨ft, hft⟩ := hel i hi y hy
        obtain ⟨cellV, g1, g2, g3⟩ := hq H locs cells slots hH y ft hft
        obtain ⟨kA, comp, r1, r2, r3, -⟩ := (hK.1.2 t _ ht).2
        cases hk1.symm.trans r1
        cases hkk1.symm.trans r2
        obtain ⟨kC, hkC, -⟩ := Vm.findClass_spec g3
        obtain ⟨kC', hkC', -⟩ := hal.2.2 _ _ hkC
        have hcls := (hK.1.1 ci _ hc).2
        have e1 := Option.some.inj (r3.symm.trans g3)
        refine ⟨rfl, cellV, (show T0.heap[ad y]? = some cellV by rw [hT]; exact g1), (fun q h => by rw [h] at g2; cases g2), ⟨kC', hkC'⟩, ?_, ?_⟩
        · subst e1
          exact ⟨kC', hkC'⟩
        · show vm₁.assignable _ _ = true
          rw [hal.assignable, e1]
          have e2 : D.1 ci = cellV.cls := Option.some.inj (hcls.1.symm.trans g3)
          rw [← e2]
          exact va_assign hcls)
    (g := F0 m pc ls (.int n :: .int dp :: .ref (ad j1) :: .int sp :: .ref (ad j0) :: st)) rfl (by rw [hml]; exact hl.1) (rest := st) rfl (by rw [hb]; exact d) hrm.1 (by show 2 * 0 + _ + _ ≤ _; have := hrm.2; simp only [vR] at this; omega)
  have e1 : copied (vp_cell (ac t) (n0, .inr (.inr (.inr (.inr (fun i => (μ.2.2 j0 i).map ad)))))) (vp_cell (ac t) (n1, .inr (.inr (.inr (.inr (fun i => (μ.2.2 j1 i).map ad)))))) sp dp n = vp_cell (ac t) (n1, .inr (.inr (.inr (.inr (va_cpy (fun i => (μ.2.2 j0 i).map ad) (fun i => (μ.2.2 j1 i).map ad) sp.toNatClampNeg dp.toNatClampNeg n.toNatClampNeg))))) := by
    rw [vp_cell_q, vp_cell_q, vp_cell_q]
    exact va_copied (fun z => va_rf z) (ac t) (ac t) _ _ h4
  rw [e1] at X' step
  have hlt : ad j1 < H.size := (Array.getElem?_eq_some_iff.mp hc1).1
  have hheap : ((T0.setVm vm').setCell (ad j1) (vp_cell (ac t) (n1, .inr (.inr (.inr (.inr (va_cpy (fun i => (μ.2.2 j0 i).map ad) (fun i => (μ.2.2 j1 i).map ad) sp.toNatClampNeg dp.toNatClampNeg n.toNatClampNeg))))))).heap = H.setIfInBounds (ad j1) (vp_cell (ac t) (n1, .inr (.inr (.inr (.inr (va_cpy (fun i => (μ.2.2 j0 i).map ad) (fun i => (μ.2.2 j1 i).map ad) sp.toNatClampNeg dp.toNatClampNeg n.toNatClampNeg)))))) := by rw [← hT]; rfl
  have e5 : (fun i => ((wcpyR μ j0 j1 sp.toNatClampNeg dp.toNatClampNeg n.toNatClampNeg).2.2 j1 i).map ad) = va_cpy (fun i => (μ.2.2 j0 i).map ad) (fun i => (μ.2.2 j1 i).map ad) sp.toNatClampNeg dp.toNatClampNeg n.toNatClampNeg := by
    funext i
    simp only [wcpyR, if_true, va_cpy]
    split <;> rfl
  obtain ⟨t2, a1, b1⟩ := kk _ _ cells slots ls (reg_many hR hH hj1 (μ' := wcpyR μ j0 j1 sp.toNatClampNeg dp.toNatClampNeg n.toNatClampNeg) (by
      show (H.setIfInBounds (ad j1) _)[ad j1]? = some (vp_cell (ac t) (acon ad t n1 _ _ _))
      rw [acon_r ht3, e5]
      simp only [Array.getElem?_setIfInBounds, hlt, if_true]) (by simp) (fun q hq => by simp [Array.getElem?_setIfInBounds, Ne.symm hq]) (wcpyR_o μ j0 j1 _ _ _) _ (fun l hm => by
      obtain ⟨w, -, hw⟩ := List.mem_map.mp hm
      rw [← hw])) hl _ hheap X'
  exact ⟨t2, step t2 a1, b1⟩
end Reg3
/-- an answer that is a cell, by its number -/
def qR (ad : Nat → Nat) (Q : Nat → WS → Prop) : Option Value → WS → Prop := fun r μ => ∃ b : Nat, r = some (.ref (ad b)) ∧ Q b μ
section Ret3
variable {C : VCx} {nL : Nat} {μ : WS} {pc : Nat} {lv : List (Nat × Value)} {cc : ByteArray} {own : String} {D : va_G} {ac : Nat → ClassId} {ad : Nat → Nat} {kn : KN} {Ex : Heap → Prop}
theorem vv_aret (hC : VOk C cc nL own) {nm : String} (hM : vM C (some (.object nm))) {Q : Nat → WS → Prop} {b : Nat} (d : decode cc pc = .ok (.areturn, 1)) (hq : Q b μ) : VV C nL (HPW D ac ad kn Ex (vS C)) (vQ C (QcW D ac ad kn (qR ad Q)) 0 0 (inLay ad kn)) (μ, ()) pc lv [.ref (ad b)] := by
  obtain ⟨p, l, e, R, s, m, args, below, meth, c⟩ := C
  intro H locs cells slots ls hH hl
  obtain ⟨rfl, rfl, hW, hs, ho, hlo, -⟩ := hH
  exact W.aret hC.1 hC.2.1 hM.1 (Or.inl ⟨nm, rfl⟩) (Or.inr ⟨_, rfl⟩) (fun t ht _ => ⟨_, μ, rfl, ⟨b, rfl, hq⟩, by rw [ht]; exact hW, by rw [ht]; exact hs, fun q hq => by rw [ht]; exact ho q hq⟩) hlo d hM.2
end Ret3
section Calls3
variable {ε : Type} {C : VCx} {nL : Nat} {HP : WS × ε → Heap → List Loc → Nat → Nat → Prop} {Qf : State → Prop} {μ : WS} {z : ε} {pc : Nat} {lv : List (Nat × Value)} {st : List Value} {cc cb : ByteArray} {own : String} {D : va_G} {ac : Nat → ClassId} {ad : Nat → Nat} {kn : KN} {Ex : Heap → Prop} {y : MethodName} {maxL idx : Nat} {ret : Option FieldType} {rm : Room}
theorem vv_callVr (hC : VOk C cc nL own) (hR : RegOk HP D ac ad kn Ex) (hK : KK D ac (vS C)) (hRo : RoomOk HP (vR C)) {R : Room} (hRm : vR C = R) {a : Nat} (As rest : List Value) {Q : Nat → WS → Prop} (hM : CMet (vL C) y cb maxL ret rm D ac ad kn Ex (.ref a :: As) μ (qR ad Q)) (hG : GoodIn lw_all (wsV own idx y.cls y (ws_ y cb maxL ret))) (hd : MFact y As.length rm) (hf : fitsIn rm maxL R = true)
    {j ci N : Nat} {ft : Nat → FK} {T : u_T} (hj : kn j = some (.inl (ci, N, ft))) (ha : ad j = a) (hc : clAll[ci]? = some (y.cls, T, N)) (hst : st = As.reverse ++ .ref a :: rest) (hcat : Nat.ble ((rest.map fun v => v.category).sum) 8 = true) (d : decode cc pc = .ok (.invokevirtual idx, 3))
    (kk : ∀ (b : Nat) (μ' : WS), Q b μ' → VV C nL HP Qf (μ', z) (pc + 3) lv (.ref (ad b) :: rest)) : VV C nL HP Qf (μ, z) pc lv st := by
  refine vv_callV0 hC hR hK hRo hM hG hd.1 hd.2 (fitsIn.ok hf hRm) hj ha hc hst (Nat.le_of_ble_eq_true hcat) d ?_
  rintro r μ' ⟨v, rfl, h⟩
  exact kk v μ' h
end Calls3
