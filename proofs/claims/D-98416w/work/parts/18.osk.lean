/-! the constants' own Node.of, walked where it is called (their classes are not said to be initialised: no contract can be taken) -/
set_option maxRecDepth 10000
theorem ask_back {l : Launch} {R : Room} {p : Program} {e : Env} {below : List Frame} {s : State} {sargs : Array Value} (hexec : p.tables.exec = Jvm.exec) {y : MethodName} {bytes : ByteArray} {ref nm dsc : String} {idx : Nat} (hy : plainName y.cls = true)
    (d0 : decode bytes 0 = .ok (.aload_n 1, 1)) (d1 : decode bytes 1 = .ok (.getfield idx, 3)) (d4 : decode bytes 4 = .ok (.ireturn, 1)) (hcode : ∀ (a : Array Value) (U : State), s.WarmedH U.vm → (Cond.code y bytes 2 (some .int)).before a U = true) (hlink : (Cond.fieldLink y.cls idx ref nm dsc).before sargs s = true)
    {cf i : Nat} {k : Class} {f : Field} (hi : s.fieldFound? ref nm dsc = some (cf, k, i, f)) (hst : f.isStatic = false) {x q : Addr} {w : Int32} (hfr : 1 ≤ R.frames) (hlo : 8 + (2 + 11) ≤ R.locals) :
    Back l R p e below s sargs y 5 8 (fun A a => a = #[.ref x, .ref q] ∧ ∃ cell : Cell, A.U.heap[q]? = some cell ∧ cell.vm ≠ .unknown ∧ cell.slots[f.slot]? = some (.int w)) (fun A _ v B => v = some (.int w) ∧ B.U.heap = A.U.heap ∧ B.locs = A.locs ∧ B.cells = A.cells ∧ B.slots = A.slots) := by
  intro m meth c A g ig mk a X hg hsize hdg hW hn hp
  obtain ⟨rfl, cell, hcell, hkn, hslot⟩ := hp
  obtain ⟨U, Ls, c0, s0⟩ := A
  dsimp only [Pt.U, Pt.locs, Pt.cells, Pt.slots] at X hn hcell ⊢
  obtain ⟨methY, cY, hmY, hcY, hbY, hlY, hrY, hlkY, -, -⟩ := Cond.code_spec hn (hcode #[.ref x, .ref q] U X.warmed)
  have h : At U g.method c below := by rw [hg]; exact X.here
  have hpm : U.plainMethod mk := State.plainMethod.of_named (s := U) (plainFor_of_name hy) hn hmY
  have hE := h.enter #[.ref x, .ref q] hmY hcY hpm
  have hfull := X.notFull (g := g) hsize (vars := cY.maxLocals) hfr (by rw [hlY]; omega)
  have hfc : s.vm.findClass y.cls = some mk.cls := by rw [← X.warmed.alike.findClass]; exact findClass_of_methodNamed hn
  have hpl : e.platform.magicAccessors = ({} : Platform).magicAccessors := by rw [X.admits.platform]
  obtain ⟨ci', cfl, k', i', f', hi', hlinks, hright⟩ := Cond.fieldLink_spec hfc hlink e.platform hpl
  cases hi.symm.trans hi'
  obtain ⟨hk, hf⟩ := State.fieldFound?_spec hi
  rw [hlY] at hE hfull
  rw [doInvoke_enter h.top [] hmY hcY hlkY (by rw [hlY]; exact hfull), hlY]
  have hfr1 := frames_entered (g := g) h.top (.java (entryFrame mk #[.ref x, .ref q] 2))
  have hback : ∀ vm' : Vm, (((U.setTop g).pushFrame (.java (entryFrame mk #[.ref x, .ref q] 2))).setVm vm').setFrames (.java g :: U.frames.tail) = (U.setVm vm').setTop g := fun vm' => setFrames_entered (s := U.setVm vm') (g := g) h.top (.java (entryFrame mk #[.ref x, .ref q] 2))
  have hc1 : ((U.setTop g).pushFrame (.java (entryFrame mk #[.ref x, .ref q] 2))).heap[q]? = some cell := hcell
  have hW1 : s.WarmedH ((U.setTop g).pushFrame (.java (entryFrame mk #[.ref x, .ref q] 2))).vm := X.warmed
  have hcg : ((U.setTop g).pushFrame (.java (entryFrame mk #[.ref x, .ref q] 2))).code? g.method = some c := by
    have := h.code
    rw [State.code?_eq] at this ⊢
    simpa [State.pushFrame, State.setFrames] using this
  have hm1 : ((U.setTop g).pushFrame (.java (entryFrame mk #[.ref x, .ref q] 2))).vm.method? mk = some methY := hmY
  generalize (U.setTop g).pushFrame (.java (entryFrame mk #[.ref x, .ref q] 2)) = U1 at hE hfr1 hback hc1 hW1 hcg hm1 ⊢
  obtain ⟨vm', hW', hstep⟩ := Steps.getfieldCold (tb := p.tables) (e := e) (U := U1) (f := { method := mk, pc := 1, locals := argsToLocals #[.ref x, .ref q] 2, stack := [.ref q], locked := none }) hE hexec (by rw [hbY]; exact d1) (s₀ := s) hW1 hlinks hright hk hf hst rfl hc1 hkn hslot
  refine ⟨some (.int w), ⟨U.setVm vm', Ls, c0, s0⟩, X.noted hW', ⟨rfl, rfl, rfl, rfl, rfl⟩, ?_⟩
  show Steps p.tables e below _ ((U.setVm vm').setTop { g with pc := g.pc + 5, stack := .int w :: g.stack })
  have hl1 : (argsToLocals #[Value.ref x, Value.ref q] 2)[1]? = some (.val (.ref q)) := rfl
  have hT : Steps p.tables e below (U1.setTop { method := mk, pc := 1, locals := argsToLocals #[.ref x, .ref q] 2, stack := [.ref q], locked := none }) ((U.setVm vm').setTop { g with pc := g.pc + 5, stack := .int w :: g.stack }) := by
    refine hstep _ ?_
    have hal : U1.vm.Alike vm' := hW1.alike.symm.trans hW'.alike
    have hE' : At (U1.setVm vm') mk cY below := hE.setVm hal
    have hm2 : (U1.setVm vm').vm.method? mk = some methY := by
      show vm'.method? mk = some methY
      rw [hal.method?]; exact hm1
    have hcg2 : (U1.setVm vm').code? g.method = some c := by
      rw [State.code?_eq] at hcg ⊢
      show (vm'.method? g.method).bind _ = _
      rw [hal.method?]; exact hcg
    have hfr2 : (U1.setVm vm').frames = .java (entryFrame mk #[.ref x, .ref q] 2) :: .java g :: U.frames.tail := hfr1
    have hb2 : ((U1.setVm vm').setFrames (.java g :: U.frames.tail)) = (U.setVm vm').setTop g := hback vm'
    generalize U1.setVm vm' = U2 at hE' hm2 hcg2 hfr2 hb2 ⊢
    jvm_step hE' [hE'.top, hexec, hbY, d4, hm2, hrY, narrow]
    intro acts
    rw [doReturn_leave (g := g) (meth := methY) (cg := c) (ig := ig) (len := 5) acts hfr2 hm2 hlkY rfl rfl hcg2 hdg, hb2, State.setTop_setTop]
    exact Steps.refl _
  unfold entryFrame
  jvm_step hE [hE.top, hexec, hbY, d0, hl1, Value.isRef]
  exact hT
