/-! calls of Node.of -/
set_option maxRecDepth 10000
def NodeRow (l : Launch) (D : va_G) (ac : Nat → ClassId) (ad : Nat → Nat) (kn : KN) (d a : Nat) (P : Heap → Prop) (v : (Nat → Int32) → Int32) : Prop :=
  ∀ (ε : Type) (C : VCx) (nL : Nat) (HP : WS × ε → Heap → List Loc → Nat → Nat → Prop) (Qf : State → Prop) (μ : WS) (z : ε) (pc : Nat) (lv : List (Nat × Value)) (rest : List Value) (cc : ByteArray) (own : String) (idx : Nat) (Ex : Heap → Prop),
    VOk C cc nL own → RegOk HP D ac ad kn Ex → KK D ac (vS C) → RoomOk HP (vR C) → vL C = l → (∀ x H locs c n, HP x H locs c n → P H) → d + 1 ≤ (vR C).frames → 30 * (d + 1) ≤ (vR C).locals → Cond.methodLink own idx yNode_of ∈ lw_all →
    (rest.map fun v => v.category).sum ≤ 8 → decode cc pc = .ok (.invokeinterface idx 2, 5) → VV C nL HP Qf (μ, z) (pc + 5) lv (.int (v (μ.1 132)) :: rest) → VV C nL HP Qf (μ, z) pc lv (.ref (ad 132) :: .ref a :: rest)
theorem nd_row {l : Launch} {D : va_G} {ac : Nat → ClassId} {ad : Nat → Nat} {kn : KN} {d a : Nat} {P : Heap → Prop} {v : (Nat → Int32) → Int32} {y : MethodName} {cb : ByteArray} {maxL : Nat} {rm : Room} {Cn : String} {cC : ClassId}
    (hM : ∀ μ, CMet l y cb maxL (some .int) rm D ac ad kn P [.ref a, .ref (ad 132)] μ (qI fun r μ' => r = v (μ.1 132) ∧ μ' = μ)) (hcls : ∀ U, KK D ac U → ClassAt U Cn cC) (hcell : ∀ H, P H → ∃ cell : Cell, H[a]? = some cell ∧ cell.vm.isStatics = false ∧ cell.cls = cC) (hF : (Cn, y) ∈ kxF)
    (hw1 : Cond.selects Cn yNode_of y ∈ lw_all) (hw2 : Cond.instanceMethod y ∈ lw_all) (hw3 : Cond.initialized y.cls ∈ lw_all) (hw4 : Cond.code y cb maxL (some .int) ∈ lw_all) (hz : rm.cells = 0 ∧ rm.slots = 0) (hr : rm.frames ≤ d ∧ 8 + (maxL + 11) + rm.locals ≤ 30 * (d + 1)) : NodeRow l D ac ad kn d a P v := by
  intro ε C nL HP Qf μ z pc lv rest cc own idx Ex hC hR hK hRo hLl hP hfr hlo hlink hcat d0 kk
  subst hLl
  have hKc := hcls _ hK
  have hGf : GoodIn lw_all (va_wsF own idx Cn yNode_of y (ws_ y cb maxL (some .int))) := by
    refine lw_app ?_ (lw_meth hw4)
    intro w hw
    simp only [List.mem_cons, List.not_mem_nil, or_false] at hw
    rcases hw with e | e | e | e
    · rw [e]; exact hlink
    · rw [e]; exact hw1
    · rw [e]; exact hw2
    · rw [e]; exact hw3
  obtain ⟨p, l, e, R, s, m, args, below, meth, c⟩ := C
  intro H locs cells slots ls hH hl
  have hro := hRo _ _ _ _ _ hH
  obtain ⟨cellB, g1, g2, g3⟩ := hcell H (hP _ _ _ _ _ hH)
  have hcw : va_CI R s args own Cn idx yNode_of y cb maxL (some .int) (ws_ y cb maxL (some .int)) rm 0 0 1 := va_cwF 1 hC.2.2.2.2 hGf rfl hz.1 hz.2 (hK.2.1.2.2.1 _ hF) (by decide +kernel) ⟨Nat.le_trans (Nat.succ_le_succ hr.1) hfr, Nat.le_trans hr.2 hlo⟩
  have hrun := va_runF (l := l) (e := e) (below := below) (meth := meth) (locs := locs) (cells := cells) (slots := slots) (count := 2) (g := F0 m pc ls (.ref (ad 132) :: .ref a :: rest)) (As := [.ref (ad 132)]) (rest := rest) (b := a) hKc hC (hM μ) hcw
    ⟨PcW.blind, ⟨cellB, g1, g2, by rw [g3]; exact hKc.1⟩, fun U hU hW => ⟨rfl, by rw [hU]; exact hR.2.1 _ _ _ _ _ hH, hK.warm hW, by rw [hU]; exact hP _ _ _ _ _ hH⟩⟩ rfl rfl hl.1 rfl (lv_room hcat) d0 hro
  intro T hT X
  obtain ⟨w, st₀, t, T', L, h0, X', hL, e1, e2, ⟨r, μ', hv, ⟨v1, rfl, rfl, rfl⟩, hW, hs, ho⟩, stp⟩ := hrun T hT X
  cases hv
  rw [h0] at hs ho
  obtain ⟨t2, a1, b1⟩ := kk T'.heap (locs ++ L) cells slots ls (hR.2.2.1 (_, z) H locs cells slots _ T'.heap L hH (by rw [e1]; exact hW) (by rw [e1]; exact hs) (fun q hq => by rw [e1]; exact ho q hq) hL) hl T' rfl X'
  exact ⟨t2, stp t2 a1, b1⟩
/-- a field of an object outside the region -/
theorem vv_getfE {ε : Type} {C : VCx} {nL : Nat} {HP : WS × ε → Heap → List Loc → Nat → Nat → Prop} {Qf : State → Prop} {μ : WS} {z : ε} {pc : Nat} {lv : List (Nat × Value)} {st : List Value} {cc : ByteArray} {own : String} {D : va_G} {ac : Nat → ClassId} (hC : VOk C cc nL own) (hK : KK D ac (vS C)) {index ci N k : Nat} {ty : FieldType} {fin : Bool} (hF : FAcc own index ci N k ty fin) {a : Nat} {V : Nat → Value} (hE : ∀ x H locs c n, HP x H locs c n → t_OB a (D.1 ci) N (D.2 ci) H V) {v : Value} (hv : V k = v)
    (d : decode cc pc = .ok (.getfield index, 3)) (kk : VV C nL HP Qf (μ, z) (pc + 3) lv (v :: st)) : VV C nL HP Qf (μ, z) pc lv (.ref a :: st) := by
  obtain ⟨p, l, e, R, s, m, args, below, meth, c⟩ := C
  intro H locs cells slots ls hH hl
  obtain ⟨Cn, T, ty0, hc, hk, hin, hlink, -⟩ := hF
  obtain ⟨hx, hb, hml, hown, hts⟩ := hC
  obtain ⟨cell, q1, q2, q3, q4⟩ := hE _ _ _ _ _ hH
  obtain ⟨hS, hfc, kC, hkC, hkind⟩ := hK.1.1 ci _ hc
  obtain ⟨cf, kf, fi, f, hi, hsl⟩ := hS k hk
  refine W.getf hx hb hown (hts _ hlink) hi (u_facts hfc hkC (u_lays hts hin hk) hi).1 q1 (by rw [q3]; exact fun h => by cases h) (v := v) ?_ rfl rfl d (kk H locs cells slots ls hH hl)
  rw [hsl, q4 k hk, hv]
/-- what a node of the region SealCasts stands on -/
def outX (ad : Nat → Nat) (S : XS) (q : Nat) : Prop := ¬ inLay ad (knX S) q
def nodeX (D : va_G) (ac : Nat → ClassId) (ad : Nat → Nat) (S : XS) (d a : Nat) (L : List (Int32 × Int32)) (H : Heap) : Prop := nodeP D ac (outX ad S) d a L H
theorem nodeX.ok {D : va_G} {ac : Nat → ClassId} {ad : Nat → Nat} {S : XS} {d a : Nat} {L : List (Int32 × Int32)} : ExOk ad (knX S) (nodeX D ac ad S d a L) := fun H H' _ ho h => nodeP.kept (fun q hq _ => ho q hq) d a L h
theorem tob.ok {ad : Nat → Nat} {S : XS} {a : Nat} {cC : ClassId} {N : Nat} {iS : Nat → Nat} {V : Nat → Value} (h : outX ad S a) : ExOk ad (knX S) (fun H => t_OB a cC N iS H V) := fun H H' _ ho ht => ht.kept (ho a h)
theorem and.ok {ad : Nat → Nat} {kn : KN} {P Q : Heap → Prop} (h : ExOk ad kn P) (h' : ExOk ad kn Q) : ExOk ad kn (fun H => P H ∧ Q H) := fun H H' hs ho hp => ⟨h H H' hs ho hp.1, h' H H' hs ho hp.2⟩
theorem cel.ok {ad : Nat → Nat} {S : XS} {a : Nat} {cC : ClassId} (h : outX ad S a) : ExOk ad (knX S) (fun H => ∃ cell : Cell, H[a]? = some cell ∧ cell.vm.isStatics = false ∧ cell.cls = cC) := fun H H' _ ho ⟨q, h1, h2⟩ => ⟨q, by rw [ho a h]; exact h1, h2⟩
