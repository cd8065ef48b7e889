/-! contracts of methods that make no cell: start, end, calls -/
set_option maxRecDepth 10000
def HPW (D : va_G) (ac : Nat → ClassId) (ad : Nat → Nat) (kn : KN) (Ex : Heap → Prop) (s : State) : WS × Unit → Heap → List Loc → Nat → Nat → Prop := fun x H locs c n => c = 0 ∧ n = 0 ∧ HW D ac ad kn x.1 H ∧ H.size = s.heap.size ∧ (∀ q : Nat, ¬ inLay ad kn q → H[q]? = s.heap[q]?) ∧ (∀ l ∈ locs, inLay ad kn l.base) ∧ Ex H
theorem HPW.reg (D : va_G) (ac : Nat → ClassId) {ad : Nat → Nat} {kn : KN} {Ex : Heap → Prop} (s : State) (hL : LayOk ad kn) (hE : ExOk ad kn Ex) : RegOk (HPW D ac ad kn Ex s) D ac ad kn Ex := by
  refine ⟨hL, fun x H locs c n h => h.2.2.1, ?_, fun x H locs c n h => h.2.2.2.2.2.2⟩
  intro x H locs c n μ' H' L h hW hs ho hl
  refine ⟨h.1, h.2.1, hW, hs.trans h.2.2.2.1, fun q hq => (ho q hq).trans (h.2.2.2.2.1 q hq), fun l hm => ?_, hE _ _ hs ho h.2.2.2.2.2.2⟩
  rcases List.mem_append.mp hm with h1 | h1
  · exact h.2.2.2.2.2.1 l h1
  · exact hl l h1
def RoomOk {ε : Type} (HP : WS × ε → Heap → List Loc → Nat → Nat → Prop) (R : Room) : Prop := ∀ x H locs c n, HP x H locs c n → c ≤ R.cells ∧ n ≤ R.slots
theorem HPW.room {D : va_G} {ac : Nat → ClassId} {ad : Nat → Nat} {kn : KN} {Ex : Heap → Prop} {s : State} {R : Room} : RoomOk (HPW D ac ad kn Ex s) R := by
  intro x H locs c n h
  rw [h.1, h.2.1]
  exact ⟨Nat.zero_le _, Nat.zero_le _⟩
def PcW (D : va_G) (ac : Nat → ClassId) (ad : Nat → Nat) (kn : KN) (Ex : Heap → Prop) (as : List Value) (μ : WS) : Array Value → State → Prop := fun v U => v = as.toArray ∧ HW D ac ad kn μ U.heap ∧ KK D ac U ∧ Ex U.heap
def QcW (D : va_G) (ac : Nat → ClassId) (ad : Nat → Nat) (kn : KN) (Q : Option Value → WS → Prop) : Array Value → State → Outcome → State → Prop := fun _ st o t => ∃ (r : Option Value) (μ' : WS), o = .returned r ∧ Q r μ' ∧ HW D ac ad kn μ' t.heap ∧ t.heap.size = st.heap.size ∧ ∀ q : Nat, ¬ inLay ad kn q → t.heap[q]? = st.heap[q]?
def qI (Q : Int32 → WS → Prop) : Option Value → WS → Prop := fun r μ => ∃ v : Int32, r = some (.int v) ∧ Q v μ
def qV (Q : WS → Prop) : Option Value → WS → Prop := fun r μ => r = none ∧ Q μ
def CMet (l : Launch) (y : MethodName) (cc : ByteArray) (nL : Nat) (ret : Option FieldType) (rm : Room) (D : va_G) (ac : Nat → ClassId) (ad : Nat → Nat) (kn : KN) (Ex : Heap → Prop) (as : List Value) (μ : WS) (Q : Option Value → WS → Prop) : Prop := Met l y (ws_ y cc nL ret) rm (PcW D ac ad kn Ex as μ) (QcW D ac ad kn Q) 0 0 (inLay ad kn)
theorem PcW.blind {D : va_G} {ac : Nat → ClassId} {ad : Nat → Nat} {kn : KN} {Ex : Heap → Prop} {as : List Value} {μ : WS} : FrameBlind (PcW D ac ad kn Ex as μ) := fun a U g mk h => ⟨h.1, h.2.1, KK.calling h.2.2.1, h.2.2.2⟩
def vM (C : VCx) (ret : Option FieldType) : Prop := C.2.2.2.2.2.2.2.2.1.sig.returnType = ret ∧ C.2.2.2.2.2.2.2.2.1.locks = false
def vL (C : VCx) : Launch := C.2.1
def vQ (C : VCx) (Qc : Array Value → State → Outcome → State → Prop) (mc ms : Nat) (free : Addr → Prop) : State → Prop := match C with
  | (p, l, e, R, s, m, args, below, meth, c) => MQ below Qc args s mc ms free
theorem vv_met {l : Launch} {y : MethodName} {cc : ByteArray} {nL : Nat} {ret : Option FieldType} {rm : Room} {D : va_G} {ac : Nat → ClassId} {ad : Nat → Nat} {kn : KN} {Ex : Heap → Prop} {as : List Value} {μ : WS} {Q : Option Value → WS → Prop} (hy : plainName y.cls = true) (hL : LayOk ad kn) (hE : ExOk ad kn Ex) (hlen : (lg_sl as).length ≤ nL) {lv : List (Nat × Value)} (hlv : lv_args 0 as = lv) (hz : rm.cells = 0 ∧ rm.slots = 0)
    (body : ∀ C : VCx, VOk C cc nL y.cls → KK D ac (vS C) → vR C = rm → vL C = l → RegOk (HPW D ac ad kn Ex (vS C)) D ac ad kn Ex → vM C ret → VV C nL (HPW D ac ad kn Ex (vS C)) (vQ C (QcW D ac ad kn Q) 0 0 (inLay ad kn)) (μ, ()) 0 lv []) : CMet l y cc nL ret rm D ac ad kn Ex as μ Q := by
  refine Met.ofW (cc := cc) (maxL := nL) (ret := ret) hy rfl ?_
  intro p e s m args below meth c s₁ B hml hv
  obtain ⟨rfl, hW, hK, hEx⟩ := hv
  have hts := atoms_spec (ws := ws_ y cc nL ret) B.pre
  have hts : ∀ w ∈ lw_all, w.before _ s = true := fun w h => hts w (List.mem_cons_of_mem _ h)
  have hown : s.vm.findClass y.cls = some m.cls := findClass_of_methodNamed B.named
  have hl := lv_entry as (n := nL) hlen
  rw [lg_entry_eq]
  rw [hlv] at hl
  exact body (p, l, e, (headSpec (ws_ y cc nL ret) rm).room, s, m, as.toArray, below, meth, c) ⟨B.exec, B.bytes, hml, hown, hts⟩ hK rfl rfl (HPW.reg D ac s hL hE) ⟨B.returns, B.notSynchronized⟩ s.heap [] 0 0 _ ⟨rfl, rfl, hW, rfl, fun _ _ => rfl, fun _ h => (by cases h), hEx⟩ hl
section Ret
variable {C : VCx} {nL : Nat} {μ : WS} {pc : Nat} {lv : List (Nat × Value)} {cc : ByteArray} {own : String} {D : va_G} {ac : Nat → ClassId} {ad : Nat → Nat} {kn : KN} {Ex : Heap → Prop}
theorem vv_iret (hC : VOk C cc nL own) (hM : vM C (some .int)) {Q : Int32 → WS → Prop} {v : Int32} (d : decode cc pc = .ok (.ireturn, 1)) (hq : Q v μ) : VV C nL (HPW D ac ad kn Ex (vS C)) (vQ C (QcW D ac ad kn (qI Q)) 0 0 (inLay ad kn)) (μ, ()) pc lv [.int v] := by
  obtain ⟨p, l, e, R, s, m, args, below, meth, c⟩ := C
  intro H locs cells slots ls hH hl
  obtain ⟨rfl, rfl, hW, hs, ho, hlo, -⟩ := hH
  exact W.iret hC.1 hC.2.1 hM.1 (fun t ht _ => ⟨_, μ, rfl, ⟨v, rfl, hq⟩, by rw [ht]; exact hW, by rw [ht]; exact hs, fun q hq => by rw [ht]; exact ho q hq⟩) hlo d hM.2
def isB (v : Int32) : Prop := v = 0 ∨ v = 1
theorem isB.narrow {v : Int32} (h : isB v) : narrow .boolean (.int v) = .int v := by
  rcases h with rfl | rfl <;> rfl
theorem isB_0 : isB 0 := Or.inl rfl
theorem isB_1 : isB 1 := Or.inr rfl
theorem vv_zret (hC : VOk C cc nL own) (hM : vM C (some .boolean)) {Q : Int32 → WS → Prop} {v : Int32} (d : decode cc pc = .ok (.ireturn, 1)) (hb : isB v) (hq : Q v μ) : VV C nL (HPW D ac ad kn Ex (vS C)) (vQ C (QcW D ac ad kn (qI Q)) 0 0 (inLay ad kn)) (μ, ()) pc lv [.int v] := by
  obtain ⟨p, l, e, R, s, m, args, below, meth, c⟩ := C
  intro H locs cells slots ls hH hl
  obtain ⟨rfl, rfl, hW, hs, ho, hlo, -⟩ := hH
  exact W.zret hC.1 hC.2.1 hM.1 hb.narrow (fun t ht _ => ⟨_, μ, rfl, ⟨v, rfl, hq⟩, by rw [ht]; exact hW, by rw [ht]; exact hs, fun q hq => by rw [ht]; exact ho q hq⟩) hlo d hM.2
theorem vv_vret (hC : VOk C cc nL own) (hM : vM C none) {Q : WS → Prop} (d : decode cc pc = .ok (.return_, 1)) (hq : Q μ) : VV C nL (HPW D ac ad kn Ex (vS C)) (vQ C (QcW D ac ad kn (qV Q)) 0 0 (inLay ad kn)) (μ, ()) pc lv [] := by
  obtain ⟨p, l, e, R, s, m, args, below, meth, c⟩ := C
  intro H locs cells slots ls hH hl
  obtain ⟨rfl, rfl, hW, hs, ho, hlo, -⟩ := hH
  exact W.vret hC.1 hC.2.1 hM.1 (fun t ht _ => ⟨_, μ, rfl, ⟨rfl, hq⟩, by rw [ht]; exact hW, by rw [ht]; exact hs, fun q hq => by rw [ht]; exact ho q hq⟩) hlo d hM.2
end Ret
section Calls
variable {ε : Type} {C : VCx} {nL : Nat} {HP : WS × ε → Heap → List Loc → Nat → Nat → Prop} {Qf : State → Prop} {μ : WS} {z : ε} {pc : Nat} {lv : List (Nat × Value)} {st rest : List Value} {cc cb : ByteArray} {own : String} {D : va_G} {ac : Nat → ClassId} {ad : Nat → Nat} {kn : KN} {Ex : Heap → Prop} {y : MethodName} {maxL idx : Nat} {ret : Option FieldType} {rm : Room} {As : List Value} {Qo : Option Value → WS → Prop}
/-- behind a call -/
theorem vv_after (hR : RegOk HP D ac ad kn Ex) {p : Program} {l : Launch} {e : Env} {R : Room} {s : State} {m : MethodId} {args : Array Value} {below : List Frame} {meth : Method} {c : Code} {H : Heap} {locs : List Loc} {cells slots : Nat} {ls : Array Slot} {a : Array Value} (hH : HP (μ, z) H locs cells slots) (hl : lv_has ls nL lv)
    (hr : va_Run p l e R s m args below meth c H locs cells slots 0 0 (F0 m pc ls st) rest (QcW D ac ad kn Qo a) (inLay ad kn)) (kk : ∀ (r : Option Value) (μ' : WS), Qo r μ' → VV (p, l, e, R, s, m, args, below, meth, c) nL HP Qf (μ', z) (pc + 3) lv (r.toList ++ rest)) : W p l e R s m args below meth c H locs cells slots Qf (F0 m pc ls st) := by
  intro T hT X
  obtain ⟨v, st₀, t, T', L, h0, X', hL, e1, e2, ⟨r, μ', hv, hq, hW, hs, ho⟩, stp⟩ := hr T hT X
  cases hv
  rw [h0] at hs ho
  obtain ⟨t2, a1, b1⟩ := kk v μ' hq T'.heap (locs ++ L) cells slots ls (hR.2.2.1 (μ, z) H locs cells slots μ' T'.heap L hH (by rw [e1]; exact hW) (by rw [e1]; exact hs) (fun q hq => by rw [e1]; exact ho q hq) hL) hl T' rfl X'
  exact ⟨t2, stp t2 a1, b1⟩
theorem vv_callV0 (hC : VOk C cc nL own) (hR : RegOk HP D ac ad kn Ex) (hK : KK D ac (vS C)) (hRo : RoomOk HP (vR C)) {a : Nat} (hM : CMet (vL C) y cb maxL ret rm D ac ad kn Ex (.ref a :: As) μ Qo) (hG : GoodIn lw_all (wsV own idx y.cls y (ws_ y cb maxL ret))) (hd : y.cls ≠ "java/lang/invoke/MethodHandle" ∧ y.cls ≠ "java/lang/invoke/VarHandle" ∧ (parseMethodDescriptor y.desc).map (fun d => d.parameters.length) = some As.length) (hz : rm.cells = 0 ∧ rm.slots = 0) (hrm : rm.frames + 1 ≤ (vR C).frames ∧ 8 + (maxL + 11) + rm.locals ≤ (vR C).locals)
    {j ci N : Nat} {ft : Nat → FK} {T : u_T} (hj : kn j = some (.inl (ci, N, ft))) (ha : ad j = a) (hc : clAll[ci]? = some (y.cls, T, N)) (hst : st = As.reverse ++ .ref a :: rest) (hcat : (rest.map fun v => v.category).sum ≤ 8) (d : decode cc pc = .ok (.invokevirtual idx, 3))
    (kk : ∀ (r : Option Value) (μ' : WS), Qo r μ' → VV C nL HP Qf (μ', z) (pc + 3) lv (r.toList ++ rest)) : VV C nL HP Qf (μ, z) pc lv st := by
  obtain ⟨p, l, e, R, s, m, args, below, meth, c⟩ := C
  intro H locs cells slots ls hH hl
  have hro := hRo _ _ _ _ _ hH
  obtain ⟨cell, g1, g2, g3, -⟩ : t_OB (ad j) (D.1 ci) N (D.2 ci) H (fval ad ft (μ.1 j) (μ.2.1 j) (μ.2.2 j)) := hR.2.1 _ _ _ _ _ hH j _ hj
  subst ha
  refine vv_after hR hH hl (va_runV (As := As) (rest := rest) (Ts := lw_all) (own := own) (C := y.cls) hC hM (cwV As.length hC.2.2.2.2 hG rfl hz.1 hz.2 ⟨rfl, hd⟩ hrm) ⟨PcW.blind, ⟨cell, g1, by rw [g3]; rfl, by rw [g2]; exact (hK.1.1 ci _ hc).2.1⟩, fun U hU hW => ⟨rfl, by rw [hU]; exact hR.2.1 _ _ _ _ _ hH, hK.warm hW, by rw [hU]; exact hR.2.2.2 _ _ _ _ _ hH⟩⟩ rfl rfl hl.1 hst (lv_room hcat) d hro) kk
theorem vv_callS0 (hC : VOk C cc nL own) (hR : RegOk HP D ac ad kn Ex) (hK : KK D ac (vS C)) (hRo : RoomOk HP (vR C)) (hM : CMet (vL C) y cb maxL ret rm D ac ad kn Ex As μ Qo) (hG : GoodIn lw_all (va_wsS own idx y (ws_ y cb maxL ret))) (hd : y.cls ≠ "java/lang/invoke/MethodHandle" ∧ y.cls ≠ "java/lang/invoke/VarHandle" ∧ (parseMethodDescriptor y.desc).map (fun d => d.parameters.length) = some As.length) (hz : rm.cells = 0 ∧ rm.slots = 0) (hrm : rm.frames + 1 ≤ (vR C).frames ∧ 8 + (maxL + 11) + rm.locals ≤ (vR C).locals)
    (hst : st = As.reverse ++ rest) (hcat : (rest.map fun v => v.category).sum ≤ 8) (d : decode cc pc = .ok (.invokestatic idx, 3))
    (kk : ∀ (r : Option Value) (μ' : WS), Qo r μ' → VV C nL HP Qf (μ', z) (pc + 3) lv (r.toList ++ rest)) : VV C nL HP Qf (μ, z) pc lv st := by
  obtain ⟨p, l, e, R, s, m, args, below, meth, c⟩ := C
  intro H locs cells slots ls hH hl
  have hro := hRo _ _ _ _ _ hH
  refine vv_after hR hH hl (va_runS (As := As) (rest := rest) (Ts := lw_all) (own := own) hC hM (va_cwS As.length hC.2.2.2.2 hG rfl hz.1 hz.2 hd hrm) ⟨PcW.blind, fun U hU hW => ⟨rfl, by rw [hU]; exact hR.2.1 _ _ _ _ _ hH, hK.warm hW, by rw [hU]; exact hR.2.2.2 _ _ _ _ _ hH⟩⟩ rfl rfl hl.1 hst (lv_room hcat) d hro) kk
end Calls
section Calls2
variable {ε : Type} {C : VCx} {nL : Nat} {HP : WS × ε → Heap → List Loc → Nat → Nat → Prop} {Qf : State → Prop} {μ : WS} {z : ε} {pc : Nat} {lv : List (Nat × Value)} {st : List Value} {cc cb : ByteArray} {own : String} {D : va_G} {ac : Nat → ClassId} {ad : Nat → Nat} {kn : KN} {Ex : Heap → Prop} {y : MethodName} {maxL idx : Nat} {ret : Option FieldType} {rm : Room}
/-- a method's own facts, for its calls: descriptor and room -/
def MFact (y : MethodName) (n : Nat) (rm : Room) : Prop := (y.cls ≠ "java/lang/invoke/MethodHandle" ∧ y.cls ≠ "java/lang/invoke/VarHandle" ∧ (parseMethodDescriptor y.desc).map (fun d => d.parameters.length) = some n) ∧ rm.cells = 0 ∧ rm.slots = 0
def fitsIn (rm : Room) (maxL : Nat) (R : Room) : Bool := Nat.ble (rm.frames + 1) R.frames && Nat.ble (8 + (maxL + 11) + rm.locals) R.locals
theorem fitsIn.ok {rm R R' : Room} {maxL : Nat} (h : fitsIn rm maxL R = true) (hR : R' = R) : rm.frames + 1 ≤ R'.frames ∧ 8 + (maxL + 11) + rm.locals ≤ R'.locals := by
  subst hR
  unfold fitsIn at h
  rw [Bool.and_eq_true] at h
  exact ⟨Nat.le_of_ble_eq_true h.1, Nat.le_of_ble_eq_true h.2⟩
theorem vv_callVi (hC : VOk C cc nL own) (hR : RegOk HP D ac ad kn Ex) (hK : KK D ac (vS C)) (hRo : RoomOk HP (vR C)) {R : Room} (hRm : vR C = R) {a : Nat} (As rest : List Value) {Q : Int32 → WS → Prop} (hM : CMet (vL C) y cb maxL ret rm D ac ad kn Ex (.ref a :: As) μ (qI Q)) (hG : GoodIn lw_all (wsV own idx y.cls y (ws_ y cb maxL ret))) (hd : MFact y As.length rm) (hf : fitsIn rm maxL R = true)
    {j ci N : Nat} {ft : Nat → FK} {T : u_T} (hj : kn j = some (.inl (ci, N, ft))) (ha : ad j = a) (hc : clAll[ci]? = some (y.cls, T, N)) (hst : st = As.reverse ++ .ref a :: rest) (hcat : Nat.ble ((rest.map fun v => v.category).sum) 8 = true) (d : decode cc pc = .ok (.invokevirtual idx, 3))
    (kk : ∀ (r : Int32) (μ' : WS), Q r μ' → VV C nL HP Qf (μ', z) (pc + 3) lv (.int r :: rest)) : VV C nL HP Qf (μ, z) pc lv st := by
  refine vv_callV0 hC hR hK hRo hM hG hd.1 hd.2 (fitsIn.ok hf hRm) hj ha hc hst (Nat.le_of_ble_eq_true hcat) d ?_
  rintro r μ' ⟨v, rfl, h⟩
  exact kk v μ' h
theorem vv_callVv (hC : VOk C cc nL own) (hR : RegOk HP D ac ad kn Ex) (hK : KK D ac (vS C)) (hRo : RoomOk HP (vR C)) {R : Room} (hRm : vR C = R) {a : Nat} (As rest : List Value) {Q : WS → Prop} (hM : CMet (vL C) y cb maxL ret rm D ac ad kn Ex (.ref a :: As) μ (qV Q)) (hG : GoodIn lw_all (wsV own idx y.cls y (ws_ y cb maxL ret))) (hd : MFact y As.length rm) (hf : fitsIn rm maxL R = true)
    {j ci N : Nat} {ft : Nat → FK} {T : u_T} (hj : kn j = some (.inl (ci, N, ft))) (ha : ad j = a) (hc : clAll[ci]? = some (y.cls, T, N)) (hst : st = As.reverse ++ .ref a :: rest) (hcat : Nat.ble ((rest.map fun v => v.category).sum) 8 = true) (d : decode cc pc = .ok (.invokevirtual idx, 3))
    (kk : ∀ (μ' : WS), Q μ' → VV C nL HP Qf (μ', z) (pc + 3) lv rest) : VV C nL HP Qf (μ, z) pc lv st := by
  refine vv_callV0 hC hR hK hRo hM hG hd.1 hd.2 (fitsIn.ok hf hRm) hj ha hc hst (Nat.le_of_ble_eq_true hcat) d ?_
  rintro r μ' ⟨rfl, h⟩
  exact kk μ' h
theorem vv_callSi (hC : VOk C cc nL own) (hR : RegOk HP D ac ad kn Ex) (hK : KK D ac (vS C)) (hRo : RoomOk HP (vR C)) {R : Room} (hRm : vR C = R) (As rest : List Value) {Q : Int32 → WS → Prop} (hM : CMet (vL C) y cb maxL ret rm D ac ad kn Ex As μ (qI Q)) (hG : GoodIn lw_all (va_wsS own idx y (ws_ y cb maxL ret))) (hd : MFact y As.length rm) (hf : fitsIn rm maxL R = true)
    (hst : st = As.reverse ++ rest) (hcat : Nat.ble ((rest.map fun v => v.category).sum) 8 = true) (d : decode cc pc = .ok (.invokestatic idx, 3))
    (kk : ∀ (r : Int32) (μ' : WS), Q r μ' → VV C nL HP Qf (μ', z) (pc + 3) lv (.int r :: rest)) : VV C nL HP Qf (μ, z) pc lv st := by
  refine vv_callS0 hC hR hK hRo hM hG hd.1 hd.2 (fitsIn.ok hf hRm) hst (Nat.le_of_ble_eq_true hcat) d ?_
  rintro r μ' ⟨v, rfl, h⟩
  exact kk v μ' h
end Calls2
/-- the table of a switch: a value in range is its low end and some number -/
theorem sw_in {a : Int32} {lo hi : Int} (h1 : ¬ a.toInt < lo) (h2 : ¬ hi < a.toInt) : ∃ n : Nat, (n : Int) ≤ hi - lo ∧ a.toInt = lo + n := ⟨(a.toInt - lo).toNat, by omega, by omega⟩
theorem sw_eq {a b : Int32} (h : a.toInt = b.toInt) : a = b := Int32.toInt_inj.mp h
