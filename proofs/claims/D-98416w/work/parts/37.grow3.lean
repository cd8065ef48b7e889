/-! contracts of methods that make cells -/
set_option maxRecDepth 10000
def PcA (D : va_G) (ac : Nat → ClassId) (ad : Nat → Nat) (kn : KN) (Ex : Heap → Prop) (h : Nat) (as : List Value) (μ : WS) : Array Value → State → Prop := fun v U => v = as.toArray ∧ HW D ac ad kn μ U.heap ∧ KK D ac U ∧ Ex U.heap ∧ U.heap.size = h
def QcA (D : va_G) (ac : Nat → ClassId) (ad : Nat → Nat) (kn0 : KN) (Q : Option Value → KN → Nat → WS → Prop) : Array Value → State → Outcome → State → Prop := fun _ st o t => ∃ (r : Option Value) (kn' : KN) (μ' : WS), o = .returned r ∧ Q r kn' t.heap.size μ' ∧ HW D ac ad kn' μ' t.heap ∧ LayOk ad kn' ∧ st.heap.size ≤ t.heap.size ∧ (∀ q : Nat, q < st.heap.size → ¬ inLay ad kn0 q → t.heap[q]? = st.heap[q]?) ∧ sub0 ad kn' kn0 st.heap.size
def frA (ad : Nat → Nat) (kn : KN) (h : Nat) : Addr → Prop := fun q => inLay ad kn q ∨ h ≤ q
def CMetA (l : Launch) (y : MethodName) (cc : ByteArray) (nL : Nat) (ret : Option FieldType) (rm : Room) (D : va_G) (ac : Nat → ClassId) (ad : Nat → Nat) (kn : KN) (Ex : Heap → Prop) (h : Nat) (as : List Value) (μ : WS) (mc ms : Nat) (Q : Option Value → KN → Nat → WS → Prop) : Prop := Met l y (ws_ y cc nL ret) rm (PcA D ac ad kn Ex h as μ) (QcA D ac ad kn Q) mc ms (frA ad kn h)
theorem PcA.blind {D : va_G} {ac : Nat → ClassId} {ad : Nat → Nat} {kn : KN} {Ex : Heap → Prop} {h : Nat} {as : List Value} {μ : WS} : FrameBlind (PcA D ac ad kn Ex h as μ) := fun a U g mk h => ⟨h.1, h.2.1, KK.calling h.2.2.1, h.2.2.2.1, h.2.2.2.2⟩
theorem vv_metA {l : Launch} {y : MethodName} {cc : ByteArray} {nL : Nat} {ret : Option FieldType} {rm : Room} {D : va_G} {ac : Nat → ClassId} {ad : Nat → Nat} {kn : KN} {Ex : Heap → Prop} {h : Nat} {as : List Value} {μ : WS} {mc ms : Nat} {Q : Option Value → KN → Nat → WS → Prop} (hy : plainName y.cls = true) (hlen : (lg_sl as).length ≤ nL) {lv : List (Nat × Value)} (hlv : lv_args 0 as = lv)
    (body : ∀ C : VCx, VOk C cc nL y.cls → KK D ac (vS C) → vR C = rm → vL C = l → vM C ret → (y.name = "<init>" → vI C) → (vS C).heap.size = h → VV C nL (HPG D ac ad kn Ex kn (vS C) h 0 0) (vQ C (QcA D ac ad kn Q) mc ms (frA ad kn h)) (μ, ()) 0 lv []) : CMetA l y cc nL ret rm D ac ad kn Ex h as μ mc ms Q := by
  refine Met.ofW (cc := cc) (maxL := nL) (ret := ret) hy rfl ?_
  intro p e s m args below meth c s₁ B hml hv
  obtain ⟨rfl, hW, hK, hEx, hsz⟩ := hv
  have hts := atoms_spec (ws := ws_ y cc nL ret) B.pre
  have hts : ∀ w ∈ lw_all, w.before _ s = true := fun w h => hts w (List.mem_cons_of_mem _ h)
  have hown : s.vm.findClass y.cls = some m.cls := findClass_of_methodNamed B.named
  have hnm : meth.name = y.name := (name_of_methodNamed B.named B.method).1
  have hl := lv_entry as (n := nL) hlen
  rw [lg_entry_eq]
  rw [hlv] at hl
  exact body (p, l, e, (headSpec (ws_ y cc nL ret) rm).room, s, m, as.toArray, below, meth, c) ⟨B.exec, B.bytes, hml, hown, hts⟩ hK rfl rfl ⟨B.returns, B.notSynchronized⟩ (fun h => hnm.trans h) hsz s.heap [] 0 0 _ ⟨rfl, rfl, hsz, hW, Nat.le_of_eq hsz, fun _ _ _ => rfl, fun _ h => (by cases h), fun q hq => Or.inl hq, hEx⟩ hl
section RetA
variable {C : VCx} {nL : Nat} {μ : WS} {pc : Nat} {lv : List (Nat × Value)} {cc : ByteArray} {own : String} {D : va_G} {ac : Nat → ClassId} {ad : Nat → Nat} {kn kn0 : KN} {Ex : Heap → Prop} {h h0 c n mc ms : Nat} {Q : Option Value → KN → Nat → WS → Prop}
theorem retA_end {s t : State} {H : Heap} {locs : List Loc} {r : Option Value} (hL : LayOk ad kn) (hH : HPG D ac ad kn Ex kn0 s h c n (μ, ()) H locs c n) (ht : t.heap = H) (hq : Q r kn h μ) {a : Array Value} : QcA D ac ad kn0 Q a s (.returned r) t := by
  obtain ⟨-, -, h3, h4, h5, h6, h7, h8, h9⟩ := hH
  exact ⟨r, kn, μ, rfl, by rw [ht, h3]; exact hq, by rw [ht]; exact h4, hL, by rw [ht, h3]; exact h5, fun q hq hn => by rw [ht]; exact h6 q hq hn, h8⟩
theorem vv_iretA (hC : VOk C cc nL own) (hM : vM C (some .int)) (hL : LayOk ad kn) (hs : (vS C).heap.size = h0) (hc : c ≤ mc) (hn : n ≤ ms) {v : Int32} (d : decode cc pc = .ok (.ireturn, 1)) (hq : Q (some (.int v)) kn h μ) : VV C nL (HPG D ac ad kn Ex kn0 (vS C) h c n) (vQ C (QcA D ac ad kn0 Q) mc ms (frA ad kn0 h0)) (μ, ()) pc lv [.int v] := by
  obtain ⟨p, l, e, R, s, m, args, below, meth, cd⟩ := C
  intro H locs cells slots ls hH hl
  obtain ⟨rfl, rfl, -⟩ := id hH
  refine W.widen hc hn ?_
  exact W.iret hC.1 hC.2.1 hM.1 (fun t ht _ => retA_end hL hH ht hq) (fun q hq => by rw [← hs]; exact hH.2.2.2.2.2.2.1 q hq) d hM.2
theorem vv_zretA (hC : VOk C cc nL own) (hM : vM C (some .boolean)) (hL : LayOk ad kn) (hs : (vS C).heap.size = h0) (hc : c ≤ mc) (hn : n ≤ ms) {v : Int32} (d : decode cc pc = .ok (.ireturn, 1)) (hb : isB v) (hq : Q (some (.int v)) kn h μ) : VV C nL (HPG D ac ad kn Ex kn0 (vS C) h c n) (vQ C (QcA D ac ad kn0 Q) mc ms (frA ad kn0 h0)) (μ, ()) pc lv [.int v] := by
  obtain ⟨p, l, e, R, s, m, args, below, meth, cd⟩ := C
  intro H locs cells slots ls hH hl
  obtain ⟨rfl, rfl, -⟩ := id hH
  refine W.widen hc hn ?_
  exact W.zret hC.1 hC.2.1 hM.1 hb.narrow (fun t ht _ => retA_end hL hH ht hq) (fun q hq => by rw [← hs]; exact hH.2.2.2.2.2.2.1 q hq) d hM.2
theorem vv_vretA (hC : VOk C cc nL own) (hM : vM C none) (hL : LayOk ad kn) (hs : (vS C).heap.size = h0) (hc : c ≤ mc) (hn : n ≤ ms) (d : decode cc pc = .ok (.return_, 1)) (hq : Q none kn h μ) : VV C nL (HPG D ac ad kn Ex kn0 (vS C) h c n) (vQ C (QcA D ac ad kn0 Q) mc ms (frA ad kn0 h0)) (μ, ()) pc lv [] := by
  obtain ⟨p, l, e, R, s, m, args, below, meth, cd⟩ := C
  intro H locs cells slots ls hH hl
  obtain ⟨rfl, rfl, -⟩ := id hH
  refine W.widen hc hn ?_
  exact W.vret hC.1 hC.2.1 hM.1 (fun t ht _ => retA_end hL hH ht hq) (fun q hq => by rw [← hs]; exact hH.2.2.2.2.2.2.1 q hq) d hM.2
theorem vv_aretA (hC : VOk C cc nL own) {rt : FieldType} (hM : vM C (some rt)) (hrt : (∃ z, rt = .object z) ∨ ∃ t, rt = .array t) (hL : LayOk ad kn) (hs : (vS C).heap.size = h0) (hc : c ≤ mc) (hn : n ≤ ms) {v : Value} (hv : v = .null ∨ ∃ a, v = .ref a) (d : decode cc pc = .ok (.areturn, 1)) (hq : Q (some v) kn h μ) : VV C nL (HPG D ac ad kn Ex kn0 (vS C) h c n) (vQ C (QcA D ac ad kn0 Q) mc ms (frA ad kn0 h0)) (μ, ()) pc lv [v] := by
  obtain ⟨p, l, e, R, s, m, args, below, meth, cd⟩ := C
  intro H locs cells slots ls hH hl
  obtain ⟨rfl, rfl, -⟩ := id hH
  refine W.widen hc hn ?_
  exact W.aret hC.1 hC.2.1 hM.1 hrt hv (fun t ht _ => retA_end hL hH ht hq) (fun q hq => by rw [← hs]; exact hH.2.2.2.2.2.2.1 q hq) d hM.2
end RetA
section CallsA
variable {C : VCx} {nL : Nat} {Qf : State → Prop} {μ : WS} {pc : Nat} {lv : List (Nat × Value)} {st rest : List Value} {cc cb : ByteArray} {own : String} {D : va_G} {ac : Nat → ClassId} {ad : Nat → Nat} {kn kn0 : KN} {Ex : Heap → Prop} {h c n mc ms : Nat} {y : MethodName} {maxL idx : Nat} {ret : Option FieldType} {rm : Room} {As : List Value} {Qo : Option Value → KN → Nat → WS → Prop}
theorem vv_afterA {p : Program} {l : Launch} {e : Env} {R : Room} {s : State} {m : MethodId} {args : Array Value} {below : List Frame} {meth : Method} {cd : Code} {H : Heap} {locs : List Loc} {ls : Array Slot} {a : Array Value} (hE : ExG ad kn0 s.heap.size Ex) (hH : HPG D ac ad kn Ex kn0 s h c n (μ, ()) H locs c n) (hl : lv_has ls nL lv)
    (hr : va_Run p l e R s m args below meth cd H locs c n mc ms (F0 m pc ls st) rest (QcA D ac ad kn Qo a) (frA ad kn h)) (kk : ∀ (r : Option Value) (kn' : KN) (h' : Nat) (μ' : WS), Qo r kn' h' μ' → LayOk ad kn' → h ≤ h' → VV (p, l, e, R, s, m, args, below, meth, cd) nL (HPG D ac ad kn' Ex kn0 s h' (c + mc) (n + ms)) Qf (μ', ()) (pc + 3) lv (r.toList ++ rest)) : W p l e R s m args below meth cd H locs c n Qf (F0 m pc ls st) := by
  intro T hT X
  obtain ⟨v, st₀, t, T', L, h0, X', hL, e1, e2, ⟨r, kn', μ', hv, hq, hW, hLay, hs, ho, hsub⟩, stp⟩ := hr T hT X
  cases hv
  rw [h0] at hs ho hsub
  obtain ⟨-, -, h3, h4, h5, h6, h7, h8, h9⟩ := hH
  rw [h3] at hs ho hsub
  have ho' : ∀ q : Nat, q < s.heap.size → ¬ inLay ad kn0 q → t.heap[q]? = H[q]? := fun q hq hn => ho q (Nat.lt_of_lt_of_le hq h5) (fun hi => by
    rcases h8 q hi with h | h
    · exact hn h
    · omega)
  obtain ⟨t2, a1, b1⟩ := kk v kn' t.heap.size μ' hq hLay hs T'.heap (locs ++ L) (c + mc) (n + ms) ls ⟨rfl, rfl, by rw [e1], by rw [e1]; exact hW, Nat.le_trans h5 hs, fun q hq hn => by rw [e1, ho' q hq hn]; exact h6 q hq hn, fun l hm => by
      rcases List.mem_append.mp hm with h | h
      · exact h7 l h
      · rcases hL l h with h | h
        · exact h8 _ h
        · exact Or.inr (Nat.le_trans h5 h), fun q hq => by
      rcases hsub q hq with h | h
      · exact h8 q h
      · exact Or.inr (Nat.le_trans h5 h), by rw [e1]; exact hE H t.heap ho' h9⟩ hl T' rfl X'
  exact ⟨t2, stp t2 a1, b1⟩
def MFactA (y : MethodName) (n : Nat) (rm : Room) (mc ms : Nat) : Prop := (y.cls ≠ "java/lang/invoke/MethodHandle" ∧ y.cls ≠ "java/lang/invoke/VarHandle" ∧ (parseMethodDescriptor y.desc).map (fun d => d.parameters.length) = some n) ∧ rm.cells = mc ∧ rm.slots = ms
/-- a virtual call of a method that makes cells -/
theorem vv_callVA (hC : VOk C cc nL own) (hK : KK D ac (vS C)) (hE : ExG ad kn0 (vS C).heap.size Ex) {R : Room} (hRm : vR C = R) {a : Nat} (As rest : List Value) (hM : CMetA (vL C) y cb maxL ret rm D ac ad kn Ex h (.ref a :: As) μ mc ms Qo) {Cn : String} (hw1 : Cond.methodLink own idx y ∈ lw_all) (hw2 : Cond.instanceMethod y ∈ lw_all) (hw3 : Cond.selects Cn y y ∈ lw_all) (hw4 : Cond.initialized y.cls ∈ lw_all) (hw5 : Cond.code y cb maxL ret ∈ lw_all) (hd : MFactA y As.length rm mc ms) (hf : fitsIn rm maxL R = true) (hr1 : c + mc ≤ R.cells) (hr2 : n + ms ≤ R.slots)
    {j ci N : Nat} {ft : Nat → FK} {T : u_T} (hj : kn j = some (.inl (ci, N, ft))) (ha : ad j = a) (hc : clAll[ci]? = some (Cn, T, N)) (hst : st = As.reverse ++ .ref a :: rest) (hcat : Nat.ble ((rest.map fun v => v.category).sum) 8 = true) (d : decode cc pc = .ok (.invokevirtual idx, 3))
    (kk : ∀ (r : Option Value) (kn' : KN) (h' : Nat) (μ' : WS), Qo r kn' h' μ' → LayOk ad kn' → h ≤ h' → VV C nL (HPG D ac ad kn' Ex kn0 (vS C) h' (c + mc) (n + ms)) Qf (μ', ()) (pc + 3) lv (r.toList ++ rest)) : VV C nL (HPG D ac ad kn Ex kn0 (vS C) h c n) Qf (μ, ()) pc lv st := by
  subst hRm
  have hrm := fitsIn.ok hf rfl
  obtain ⟨p, l, e, R, s, m, args, below, meth, cd⟩ := C
  intro H locs cells slots ls hH hl
  obtain ⟨rfl, rfl, h3, h4, h5, h6, h7, h8, h9⟩ := id hH
  obtain ⟨hx, hb, hml, hown, hts⟩ := hC
  subst ha
  obtain ⟨cell, g1, g2, g3, -⟩ : t_OB (ad j) (D.1 ci) N (D.2 ci) H (fval ad ft (μ.1 j) (μ.2.1 j) (μ.2.2 j)) := h4 j _ hj
  have hcw : CallW R s args own Cn idx y cb maxL ret (ws_ y cb maxL ret) rm mc ms As.length := ⟨callB_of As.length hts (lw_meth hw5) rfl hd.2.1 hd.2.2 (hts _ hw4) (hts _ hw1) hd.1 hrm, hts _ hw2, hts _ hw3⟩
  exact vv_afterA hE hH hl (va_runV (As := As) (rest := rest) (Ts := lw_all) (own := own) (C := Cn) ⟨hx, hb, hml, hown, hts⟩ hM hcw ⟨PcA.blind, ⟨cell, g1, by rw [g3]; rfl, by rw [g2]; exact (hK.1.1 ci _ hc).2.1⟩, fun U hU hW => ⟨rfl, by rw [hU]; exact h4, hK.warm hW, by rw [hU]; exact h9, by rw [hU]; exact h3⟩⟩ rfl rfl hl.1 hst (lv_room (Nat.le_of_ble_eq_true hcat)) d ⟨hr1, hr2⟩) kk
/-- a static call of a method that makes cells -/
theorem vv_callSA (hC : VOk C cc nL own) (hK : KK D ac (vS C)) (hE : ExG ad kn0 (vS C).heap.size Ex) {R : Room} (hRm : vR C = R) (As rest : List Value) (hM : CMetA (vL C) y cb maxL ret rm D ac ad kn Ex h As μ mc ms Qo) (hG : GoodIn lw_all (va_wsS own idx y (ws_ y cb maxL ret))) (hd : MFactA y As.length rm mc ms) (hf : fitsIn rm maxL R = true) (hr1 : c + mc ≤ R.cells) (hr2 : n + ms ≤ R.slots)
    (hst : st = As.reverse ++ rest) (hcat : Nat.ble ((rest.map fun v => v.category).sum) 8 = true) (d : decode cc pc = .ok (.invokestatic idx, 3))
    (kk : ∀ (r : Option Value) (kn' : KN) (h' : Nat) (μ' : WS), Qo r kn' h' μ' → LayOk ad kn' → h ≤ h' → VV C nL (HPG D ac ad kn' Ex kn0 (vS C) h' (c + mc) (n + ms)) Qf (μ', ()) (pc + 3) lv (r.toList ++ rest)) : VV C nL (HPG D ac ad kn Ex kn0 (vS C) h c n) Qf (μ, ()) pc lv st := by
  subst hRm
  have hrm := fitsIn.ok hf rfl
  obtain ⟨p, l, e, R, s, m, args, below, meth, cd⟩ := C
  intro H locs cells slots ls hH hl
  obtain ⟨rfl, rfl, h3, h4, h5, h6, h7, h8, h9⟩ := id hH
  exact vv_afterA hE hH hl (va_runS (As := As) (rest := rest) (Ts := lw_all) (own := own) hC hM (va_cwS As.length hC.2.2.2.2 hG rfl hd.2.1 hd.2.2 hd.1 hrm) ⟨PcA.blind, fun U hU hW => ⟨rfl, by rw [hU]; exact h4, hK.warm hW, by rw [hU]; exact h9, by rw [hU]; exact h3⟩⟩ rfl rfl hl.1 hst (lv_room (Nat.le_of_ble_eq_true hcat)) d ⟨hr1, hr2⟩) kk
/-- a constructor's call -/
theorem vv_callIA (hC : VOk C cc nL own) (hK : KK D ac (vS C)) (hE : ExG ad kn0 (vS C).heap.size Ex) {R : Room} (hRm : vR C = R) {a : Nat} (As rest : List Value) (hM : CMetA (vL C) y cb maxL none rm D ac ad kn Ex h (.ref a :: As) μ mc ms Qo) (hy : y.name = "<init>") (hw2 : Cond.instanceMethod y ∈ lw_all) (hw4 : Cond.initialized y.cls ∈ lw_all) (hw5 : Cond.code y cb maxL none ∈ lw_all) (hd : MFactA y As.length rm mc ms) (hf : fitsIn rm maxL R = true) (hr1 : c + mc ≤ R.cells) (hr2 : n + ms ≤ R.slots)
    (hw1 : Cond.methodLink own idx y ∈ lw_all) (hst : st = As.reverse ++ .ref a :: rest) (hcat : Nat.ble ((rest.map fun v => v.category).sum) 8 = true) (d : decode cc pc = .ok (.invokespecial idx, 3))
    (kk : ∀ (r : Option Value) (kn' : KN) (h' : Nat) (μ' : WS), Qo r kn' h' μ' → LayOk ad kn' → h ≤ h' → VV C nL (HPG D ac ad kn' Ex kn0 (vS C) h' (c + mc) (n + ms)) Qf (μ', ()) (pc + 3) lv (r.toList ++ rest)) : VV C nL (HPG D ac ad kn Ex kn0 (vS C) h c n) Qf (μ, ()) pc lv st := by
  subst hRm
  have hrm := fitsIn.ok hf rfl
  obtain ⟨p, l, e, R, s, m, args, below, meth, cd⟩ := C
  intro H locs cells slots ls hH hl
  obtain ⟨rfl, rfl, h3, h4, h5, h6, h7, h8, h9⟩ := id hH
  obtain ⟨hx, hb, hml, hown, hts⟩ := hC
  exact vv_afterA hE hH hl (va_runI (As := As) (rest := rest) (b := a) (Ts := lw_all) (own := own) ⟨hx, hb, hml, hown, hts⟩ hM (cwI As.length hts (lw_meth hw5) rfl hd.2.1 hd.2.2 (hts _ hw4) (hts _ hw1) (hts _ hw2) hy hd.1 hrm) ⟨PcA.blind, fun U hU hW => ⟨rfl, by rw [hU]; exact h4, hK.warm hW, by rw [hU]; exact h9, by rw [hU]; exact h3⟩⟩ rfl rfl hl.1 hst (lv_room (Nat.le_of_ble_eq_true hcat)) d ⟨hr1, hr2⟩) kk
/-- a nest mate's private constructor -/
theorem vv_callINA (hC : VOk C cc nL own) (hK : KK D ac (vS C)) (hE : ExG ad kn0 (vS C).heap.size Ex) {R : Room} (hRm : vR C = R) {a : Nat} (As rest : List Value) (hM : CMetA (vL C) y cb maxL none rm D ac ad kn Ex h (.ref a :: As) μ mc ms Qo) (hy : y.name = "<init>") (hw2 : Cond.instanceMethod y ∈ lw_all) (hw4 : Cond.initialized y.cls ∈ lw_all) (hw5 : Cond.code y cb maxL none ∈ lw_all) (hd : MFactA y As.length rm mc ms) (hf : fitsIn rm maxL R = true) (hr1 : c + mc ≤ R.cells) (hr2 : n + ms ≤ R.slots)
    {host : String} (hw1 : Cond.methodLinkNest own idx y host ∈ kxW) (hst : st = As.reverse ++ .ref a :: rest) (hcat : Nat.ble ((rest.map fun v => v.category).sum) 8 = true) (d : decode cc pc = .ok (.invokespecial idx, 3))
    (kk : ∀ (r : Option Value) (kn' : KN) (h' : Nat) (μ' : WS), Qo r kn' h' μ' → LayOk ad kn' → h ≤ h' → VV C nL (HPG D ac ad kn' Ex kn0 (vS C) h' (c + mc) (n + ms)) Qf (μ', ()) (pc + 3) lv (r.toList ++ rest)) : VV C nL (HPG D ac ad kn Ex kn0 (vS C) h c n) Qf (μ, ()) pc lv st := by
  subst hRm
  have hrm := fitsIn.ok hf rfl
  have hNw := hK.2.1.1 _ hw1
  obtain ⟨p, l, e, R, s, m, args, below, meth, cd⟩ := C
  intro H locs cells slots ls hH hl
  obtain ⟨rfl, rfl, h3, h4, h5, h6, h7, h8, h9⟩ := id hH
  obtain ⟨hx, hb, hml, hown, hts⟩ := hC
  exact vv_afterA hE hH hl (va_runIN (As := As) (rest := rest) (b := a) (Ts := lw_all) (own := own) ⟨hx, hb, hml, hown, hts⟩ hM ⟨va_cnB As.length hts (lw_meth hw5) rfl hd.2.1 hd.2.2 hNw (hts _ hw4) hd.1 hrm, hy, hts _ hw2⟩ ⟨PcA.blind, fun U hU hW => ⟨rfl, by rw [hU]; exact h4, hK.warm hW, by rw [hU]; exact h9, by rw [hU]; exact h3⟩⟩ rfl rfl hl.1 hst (lv_room (Nat.le_of_ble_eq_true hcat)) d ⟨hr1, hr2⟩) kk
end CallsA
