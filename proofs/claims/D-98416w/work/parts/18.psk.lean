/-! calls of the constants' own Node.of -/
set_option maxRecDepth 100000
theorem ask_one {l : Launch} {D : va_G} {ac : Nat → ClassId} {ad : Nat → Nat} {S : XS} {d a k : Nat} {y : MethodName} {bytes : ByteArray} {Cn : String} {idx0 : Nat} (hk : k < 8) (hCn : askN k = Cn) (hy : plainName y.cls = true)
    (d0 : decode bytes 0 = .ok (.aload_n 1, 1)) (d1 : decode bytes 1 = .ok (.getfield idx0, 3)) (d4 : decode bytes 4 = .ok (.ireturn, 1)) (hF : (Cn, y) ∈ kxF) (hw1 : Cond.selects Cn yNode_of y ∈ lw_all) (hw2 : Cond.instanceMethod y ∈ lw_all) (hw4 : Cond.code y bytes 2 (some .int) ∈ lw_all) (hw5 : Cond.fieldLink y.cls idx0 (TX2 k).1 (TX2 k).2.1 (TX2 k).2.2.1 ∈ lw_all) :
    NodeRow l D ac ad (knX S) (d + 1) a (fun H => ∃ cell : Cell, H[a]? = some cell ∧ cell.vm.isStatics = false ∧ cell.cls = ac (20 + k)) (fun ask => ask k) := by
  intro ε C nL HP Qf μ z pc lv rest cc own idx Ex hC hR hK hRo hLl hP hfr hlo hlink hcat dd kk
  have hKc := hK.2.2 k hk
  rw [hCn] at hKc
  have hFw := hK.2.1.2.2.1 _ hF
  obtain ⟨p, l, e, R, s, m, args, below, meth, c⟩ := C
  intro H locs cells slots ls hH hl T hT X
  obtain ⟨hx, hb, hml, hown, hts⟩ := hC
  obtain ⟨cellB, g1, g2, g3⟩ := hP _ _ _ _ _ hH
  obtain ⟨cellA, q1, q2, q3, q4⟩ : t_OB (ad 132) (D.1 2) 8 (D.2 2) H (fval ad ftI (μ.1 132) (μ.2.1 132) (μ.2.2 132)) := hR.2.1 _ _ _ _ _ hH 132 _ (lx_132 S)
  obtain ⟨hS, hfc, kC, hkC, hkind⟩ := hK.1.1 2 _ rfl
  obtain ⟨cf, kf, fi, f, hi, hsl⟩ := hS k hk
  have hst := (u_facts hfc hkC (u_lays hts in_X2 hk) hi).1
  obtain ⟨kB, hkB, -⟩ := hKc.2
  have hkB' : s.vm.classes[cellB.cls]? = some kB := by rw [g3]; exact hkB
  obtain ⟨v, vm₁, B, hW₁, X', ⟨hv, e1, e2, e3, e4⟩, stp⟩ := va_callIF X hx (C := Cn) (count := 2) (x := yNode_of) (y := y) (bytes := bytes) (maxL := 2) (ret := some .int) hown (hts _ hlink) (va_any rfl hFw.1) (va_any rfl hFw.2.1) (hts _ hw1) (hts _ hw2) (va_any rfl hFw.2.2.1) (va_any rfl hFw.2.2.2.1) (va_any rfl hFw.2.2.2.2) (hts _ hw4) (by decide)
    (ask_back (x := a) (q := ad 132) (w := μ.1 132 k) hx hy d0 d1 d4 (fun a' U hU => word_at hU (lw_self _ hw4).2 (hts _ hw4)) (hts _ hw5) hi hst (Nat.le_trans (Nat.le_add_left 1 _) hfr) (Nat.le_trans (by omega) hlo))
    (b := a) (cellB := cellB) (kB := kB) (by rw [hT]; exact g1) g2 (by rw [g3]; exact hKc.1) hkB' (g := F0 m pc ls (.ref (ad 132) :: .ref a :: rest)) rfl (hl.1.trans hml.symm) (argsL := [.ref (ad 132)]) (rest := rest) (fun sig h => by
      have : parseMethodDescriptor yNode_of.desc = some sig := h
      have h2 : (parseMethodDescriptor yNode_of.desc).map (fun d => d.parameters.length) = some 1 := by decide +kernel
      rw [this] at h2
      exact (Option.some.inj h2).symm) rfl (lv_room hcat) (by rw [hb]; exact dd)
    (fun vm₁ _ => ⟨rfl, cellA, by show T.heap[ad 132]? = some cellA; rw [hT]; exact q1, (by rw [q3]; exact fun h => by cases h), (by rw [hsl, q4 k hk]; rfl)⟩)
  subst hv
  obtain ⟨U', l2, c2, s2⟩ := B
  dsimp only [Pt.U, Pt.locs, Pt.cells, Pt.slots] at X' e1 e2 e3 e4 stp
  subst e2; subst e3; subst e4
  have hh : U'.heap = H := e1.trans hT
  obtain ⟨t2, a1, b1⟩ := kk H _ _ _ ls hH hl U' hh X'
  exact ⟨t2, stp t2 a1, b1⟩
theorem ask_row (l : Launch) (D : va_G) (ac : Nat → ClassId) (ad : Nat → Nat) (S : XS) (_hLay : LayOk ad (knX S)) (d a k : Nat) (hk : k < 8) : NodeRow l D ac ad (knX S) (d + 1) a (fun H => ∃ cell : Cell, H[a]? = some cell ∧ cell.vm.isStatics = false ∧ cell.cls = ac (20 + k)) (fun ask => ask k) := by
  match k, hk with
  | 0, hk => exact ask_one hk (Cn := RX16) (y := yX16_of) rfl (by decide) dX16_of_0 dX16_of_1 dX16_of_4 (List.mem_of_getElem? (i := 3) rfl) q1157 q1159 q1161 q193
  | 1, hk => exact ask_one hk (Cn := RX17) (y := yX17_of) rfl (by decide) dX17_of_0 dX17_of_1 dX17_of_4 (List.mem_of_getElem? (i := 4) rfl) q1163 q1165 q1167 q195
  | 2, hk => exact ask_one hk (Cn := RX18) (y := yX18_of) rfl (by decide) dX18_of_0 dX18_of_1 dX18_of_4 (List.mem_of_getElem? (i := 5) rfl) q1169 q1171 q1173 q197
  | 3, hk => exact ask_one hk (Cn := RX19) (y := yX19_of) rfl (by decide) dX19_of_0 dX19_of_1 dX19_of_4 (List.mem_of_getElem? (i := 6) rfl) q1175 q1177 q1179 q199
  | 4, hk => exact ask_one hk (Cn := RX20) (y := yX20_of) rfl (by decide) dX20_of_0 dX20_of_1 dX20_of_4 (List.mem_of_getElem? (i := 7) rfl) q1181 q1183 q1185 q201
  | 5, hk => exact ask_one hk (Cn := RX21) (y := yX21_of) rfl (by decide) dX21_of_0 dX21_of_1 dX21_of_4 (List.mem_of_getElem? (i := 8) rfl) q1187 q1189 q1191 q203
  | 6, hk => exact ask_one hk (Cn := RX22) (y := yX22_of) rfl (by decide) dX22_of_0 dX22_of_1 dX22_of_4 (List.mem_of_getElem? (i := 9) rfl) q1193 q1195 q1197 q205
  | 7, hk => exact ask_one hk (Cn := RX23) (y := yX23_of) rfl (by decide) dX23_of_0 dX23_of_1 dX23_of_4 (List.mem_of_getElem? (i := 10) rfl) q1199 q1201 q1203 q207
