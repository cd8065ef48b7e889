/-! facts: fields of any sort, calls of their inherited methods; fields of nest mates -/
set_option maxRecDepth 10000
section FactRows
variable {ε : Type} {C : VCx} {nL : Nat} {HP : WS × ε → Heap → List Loc → Nat → Nat → Prop} {Qf : State → Prop} {μ : WS} {z : ε} {pc : Nat} {lv : List (Nat × Value)} {st : List Value} {cc : ByteArray} {own : String} {D : va_G} {ac : Nat → ClassId} {ad : Nat → Nat} {S : XS} {Ex : Heap → Prop} {b : Nat}
/-- a field of a fact, whatever its sort -/
def FAccF (own : String) (index k : Nat) (fin : Bool) : Prop := FAcc own index 12 4 k .int fin ∧ FAcc own index 13 5 k .int fin ∧ FAcc own index 14 5 k .int fin ∧ FAcc own index 15 5 k .int fin
theorem xx_getF (hC : VOk C cc nL own) (hR : RegOk HP D ac ad (knX S) Ex) (hK : KK D ac (vS C)) {index k : Nat} {fin : Bool} (hF : FAccF own index k fin) (hb : isFactA S b) (d : decode cc pc = .ok (.getfield index, 3)) (kk : VV C nL HP Qf (μ, z) (pc + 3) lv (.int (μ.1 b k) :: st)) : VV C nL HP Qf (μ, z) pc lv (.ref (ad b) :: st) := by
  obtain ⟨h1, h2⟩ := hb.to
  have h3 := kx_fact h1
  refine fact4 h2 (fun e => ?_) (fun e => ?_) (fun e => ?_) (fun e => ?_) <;> rw [e] at h3
  · exact vv_getf hC hR hK hF.1 b h3 rfl d kk
  · exact vv_getf hC hR hK hF.2.1 b h3 rfl d kk
  · exact vv_getf hC hR hK hF.2.2.1 b h3 rfl d kk
  · exact vv_getf hC hR hK hF.2.2.2 b h3 rfl d kk
theorem xx_putF (hC : VOk C cc nL own) (hR : RegOk HP D ac ad (knX S) Ex) (hK : KK D ac (vS C)) {index k : Nat} (hF : FAccF own index k false) (hb : isFactA S b) {v : Int32} (d : decode cc pc = .ok (.putfield index, 3)) (kk : VV C nL HP Qf (wset μ b k v, z) (pc + 3) lv st) : VV C nL HP Qf (μ, z) pc lv (.int v :: .ref (ad b) :: st) := by
  obtain ⟨h1, h2⟩ := hb.to
  have h3 := kx_fact h1
  refine fact4 h2 (fun e => ?_) (fun e => ?_) (fun e => ?_) (fun e => ?_) <;> rw [e] at h3
  · exact vv_puti hC hR hK hF.1 b h3 rfl rfl rfl d kk
  · exact vv_puti hC hR hK hF.2.1 b h3 rfl rfl rfl d kk
  · exact vv_puti hC hR hK hF.2.2.1 b h3 rfl rfl rfl d kk
  · exact vv_puti hC hR hK hF.2.2.2 b h3 rfl rfl rfl d kk
/-- a call of a method that the receiver's class selects -/
theorem vv_callW0 {cb : ByteArray} {kn : KN} {y : MethodName} {maxL idx : Nat} {ret : Option FieldType} {rm : Room} {As rest : List Value} {Qo : Option Value → WS → Prop} (hC : VOk C cc nL own) (hR : RegOk HP D ac ad kn Ex) (hK : KK D ac (vS C)) (hRo : RoomOk HP (vR C)) {a : Nat} (hM : CMet (vL C) y cb maxL ret rm D ac ad kn Ex (.ref a :: As) μ Qo) {Cn : String} (hw1 : Cond.methodLink own idx y ∈ lw_all) (hw2 : Cond.instanceMethod y ∈ lw_all) (hw3 : Cond.selects Cn y y ∈ lw_all) (hw4 : Cond.initialized y.cls ∈ lw_all) (hw5 : Cond.code y cb maxL ret ∈ lw_all) (hd : MFact y As.length rm) (hrm : rm.frames + 1 ≤ (vR C).frames ∧ 8 + (maxL + 11) + rm.locals ≤ (vR C).locals)
    (hrecv : ∀ H locs c n, HP (μ, z) H locs c n → ∃ cell : Cell, H[a]? = some cell ∧ cell.vm.isStatics = false ∧ (vS C).vm.findClass Cn = some cell.cls) (hst : st = As.reverse ++ .ref a :: rest) (hcat : (rest.map fun v => v.category).sum ≤ 8) (d : decode cc pc = .ok (.invokevirtual idx, 3))
    (kk : ∀ (r : Option Value) (μ' : WS), Qo r μ' → VV C nL HP Qf (μ', z) (pc + 3) lv (r.toList ++ rest)) : VV C nL HP Qf (μ, z) pc lv st := by
  obtain ⟨p, l, e, R, s, m, args, below, meth, c⟩ := C
  intro H locs cells slots ls hH hl
  have hro := hRo _ _ _ _ _ hH
  obtain ⟨hx, hb, hml, hown, hts⟩ := hC
  have hcw : CallW R s args own Cn idx y cb maxL ret (ws_ y cb maxL ret) rm 0 0 As.length := ⟨callB_of As.length hts (lw_meth hw5) rfl hd.2.1 hd.2.2 (hts _ hw4) (hts _ hw1) hd.1 hrm, hts _ hw2, hts _ hw3⟩
  refine vv_after hR hH hl (va_runV (As := As) (rest := rest) (Ts := lw_all) (own := own) (C := Cn) ⟨hx, hb, hml, hown, hts⟩ hM hcw ⟨PcW.blind, hrecv H locs cells slots hH, fun U hU hW => ⟨rfl, by rw [hU]; exact hR.2.1 _ _ _ _ _ hH, hK.warm hW, by rw [hU]; exact hR.2.2.2 _ _ _ _ _ hH⟩⟩ rfl rfl hl.1 hst (lv_room hcat) d hro) kk
theorem xx_callF {cb : ByteArray} {y : MethodName} {maxL idx : Nat} {ret : Option FieldType} {rm : Room} (hC : VOk C cc nL own) (hR : RegOk HP D ac ad (knX S) Ex) (hK : KK D ac (vS C)) (hRo : RoomOk HP (vR C)) {R : Room} (hRm : vR C = R) (As rest : List Value) {Q : Int32 → WS → Prop} (hM : CMet (vL C) y cb maxL ret rm D ac ad (knX S) Ex (.ref (ad b) :: As) μ (qI Q)) (hw1 : Cond.methodLink own idx y ∈ lw_all) (hw2 : Cond.instanceMethod y ∈ lw_all) (hw3 : Cond.selects RX12 y y ∈ lw_all ∧ Cond.selects RX13 y y ∈ lw_all ∧ Cond.selects RX14 y y ∈ lw_all ∧ Cond.selects RX15 y y ∈ lw_all) (hw4 : Cond.initialized y.cls ∈ lw_all) (hw5 : Cond.code y cb maxL ret ∈ lw_all) (hd : MFact y As.length rm) (hf : fitsIn rm maxL R = true) (hb : isFactA S b)
    (hst : st = As.reverse ++ .ref (ad b) :: rest) (hcat : Nat.ble ((rest.map fun v => v.category).sum) 8 = true) (d : decode cc pc = .ok (.invokevirtual idx, 3))
    (kk : ∀ (r : Int32) (μ' : WS), Q r μ' → VV C nL HP Qf (μ', z) (pc + 3) lv (.int r :: rest)) : VV C nL HP Qf (μ, z) pc lv st := by
  obtain ⟨h1, h2⟩ := hb.to
  have h3 := kx_fact h1
  have kk' : ∀ (r : Option Value) (μ' : WS), qI Q r μ' → VV C nL HP Qf (μ', z) (pc + 3) lv (r.toList ++ rest) := by
    rintro r μ' ⟨v, rfl, h⟩
    exact kk v μ' h
  refine fact4 h2 (fun e => ?_) (fun e => ?_) (fun e => ?_) (fun e => ?_) <;> rw [e] at h3
  · exact vv_callW0 hC hR hK hRo hM hw1 hw2 hw3.1 hw4 hw5 hd (fitsIn.ok hf hRm) (fun H locs c n hH => reg_obj hR hK hH h3 rfl) hst (Nat.le_of_ble_eq_true hcat) d kk'
  · exact vv_callW0 hC hR hK hRo hM hw1 hw2 hw3.2.1 hw4 hw5 hd (fitsIn.ok hf hRm) (fun H locs c n hH => reg_obj hR hK hH h3 rfl) hst (Nat.le_of_ble_eq_true hcat) d kk'
  · exact vv_callW0 hC hR hK hRo hM hw1 hw2 hw3.2.2.1 hw4 hw5 hd (fitsIn.ok hf hRm) (fun H locs c n hH => reg_obj hR hK hH h3 rfl) hst (Nat.le_of_ble_eq_true hcat) d kk'
  · exact vv_callW0 hC hR hK hRo hM hw1 hw2 hw3.2.2.2 hw4 hw5 hd (fitsIn.ok hf hRm) (fun H locs c n hH => reg_obj hR hK hH h3 rfl) hst (Nat.le_of_ble_eq_true hcat) d kk'
/-- a private field of a nest mate -/
def FAccN (own : String) (index ci N k : Nat) : Prop := ∃ (Cn : String) (T : u_T), clAll[ci]? = some (Cn, T, N) ∧ k < N ∧ (∀ w ∈ u_ws Cn T N, w ∈ lw_all) ∧ ∃ host, Cond.fieldLinkNest own index (T k).1 (T k).2.1 (T k).2.2.1 host ∈ kxW
theorem vv_getfN {kn : KN} (hC : VOk C cc nL own) (hR : RegOk HP D ac ad kn Ex) (hK : KK D ac (vS C)) {index ci N k : Nat} (hF : FAccN own index ci N k) (j : Nat) {ft : Nat → FK} (hj : kn j = some (.inl (ci, N, ft))) {v : Value} (hv : fval ad ft (μ.1 j) (μ.2.1 j) (μ.2.2 j) k = v)
    (d : decode cc pc = .ok (.getfield index, 3)) (kk : VV C nL HP Qf (μ, z) (pc + 3) lv (v :: st)) : VV C nL HP Qf (μ, z) pc lv (.ref (ad j) :: st) := by
  obtain ⟨p, l, e, R, s, m, args, below, meth, c⟩ := C
  intro H locs cells slots ls hH hl
  obtain ⟨Cn, T, hc, hk, hin, host, hlink⟩ := hF
  obtain ⟨hx, hb, hml, hown, hts⟩ := hC
  obtain ⟨cell, q1, q2, q3, q4⟩ : t_OB (ad j) (D.1 ci) N (D.2 ci) H (fval ad ft (μ.1 j) (μ.2.1 j) (μ.2.2 j)) := hR.2.1 _ _ _ _ _ hH j _ hj
  obtain ⟨hS, hfc, kC, hkC, hkind⟩ := hK.1.1 ci _ hc
  obtain ⟨cf, kf, fi, f, hi, hsl⟩ := hS k hk
  refine va_Wgetf hx hb hown (va_Nw.use rfl (hK.2.1.1 _ hlink)) hi (u_facts hfc hkC (u_lays hts hin hk) hi).1 q1 (by rw [q3]; exact fun h => by cases h) (v := v) ?_ rfl rfl d (kk H locs cells slots ls hH hl)
  rw [hsl, q4 k hk, hv]
end FactRows
