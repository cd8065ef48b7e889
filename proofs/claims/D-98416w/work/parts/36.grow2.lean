/-! growing regions: arrays, fields of references, constructors -/
set_option maxRecDepth 10000
section Grow2
variable {C : VCx} {nL : Nat} {Qf : State → Prop} {μ : WS} {pc : Nat} {lv : List (Nat × Value)} {st : List Value} {cc : ByteArray} {own : String} {D : va_G} {ac : Nat → ClassId} {ad : Nat → Nat} {kn kn0 : KN} {Ex : Heap → Prop} {h c n : Nat}
theorem grow_step {p : Program} {l : Launch} {e : Env} {R : Room} {s : State} {m : MethodId} {args : Array Value} {below : List Frame} {meth : Method} {cd : Code} (hA : adR ad) (hL : LayOk ad kn) (hE : ExG ad kn0 s.heap.size Ex) {H H1 : Heap} {locs : List Loc} {ls : Array Slot} {kd : KD} {N : Nat} {pc' : Nat} {st' : List Value}
    (hH : HPG D ac ad kn Ex kn0 s h c n (μ, ()) H locs c n) (hl : lv_has ls nL lv) (z1 : H1.size = h + 1) (o1 : ∀ q, q < h → H1[q]? = H[q]?) (hc : cellOK D ac ad h kd (fun _ => 0) (fun _ => 0) (fun _ => none) H1)
    (kk : LayOk ad (kset kn (100000 + h) kd) → (∀ j kd', kn j = some kd' → j ≠ 100000 + h) → VV (p, l, e, R, s, m, args, below, meth, cd) nL (HPG D ac ad (kset kn (100000 + h) kd) Ex kn0 s (h + 1) (c + 1) (n + N)) Qf (wclr μ (100000 + h), ()) pc' lv (.ref (ad (100000 + h)) :: st')) : W p l e R s m args below meth cd H1 locs (c + 1) (n + N) Qf (F0 m pc' ls (.ref h :: st')) := by
  obtain ⟨-, -, h3, h4, h5, h6, h7, h8, h9⟩ := hH
  obtain ⟨g1, g2, g3⟩ := HW.grow (kd := kd) hA h4 hL h3 o1 hc
  have := kk g2 g3 H1 locs _ _ ls ⟨rfl, rfl, z1, g1, Nat.le_succ_of_le h5, fun q hq hn => (o1 q (Nat.lt_of_lt_of_le hq h5)).trans (h6 q hq hn), h7, h8.grow hA h5, hE H H1 (fun q hq _ => o1 q (Nat.lt_of_lt_of_le hq h5)) h9⟩ hl
  rw [hA h] at this
  exact this
theorem vv_newaG_int (hC : VOk C cc nL own) (hK : KK D ac (vS C)) (hA : adR ad) (hL : LayOk ad kn) (hE : ExG ad kn0 (vS C).heap.size Ex) (hw : Cond.arrayClass .int ∈ lw_all) {v : Int32} {N : Nat} (hv : ¬ v < 0) (hN : v.toNatClampNeg = N) (hb9 : N ≤ 60000000) (hr1 : c + 1 ≤ (vR C).cells) (hr2 : n + N ≤ (vR C).slots) (d : decode cc pc = .ok (.newarray .int, 2))
    (kk : LayOk ad (kset kn (100000 + h) (.inr (0, N))) → (∀ j kd', kn j = some kd' → j ≠ 100000 + h) → VV C nL (HPG D ac ad (kset kn (100000 + h) (.inr (0, N))) Ex kn0 (vS C) (h + 1) (c + 1) (n + N)) Qf (wclr μ (100000 + h), ()) (pc + 2) lv (.ref (ad (100000 + h)) :: st)) : VV C nL (HPG D ac ad kn Ex kn0 (vS C) h c n) Qf (μ, ()) pc lv (.int v :: st) := by
  obtain ⟨p, l, e, R, s, m, args, below, meth, cd⟩ := C
  intro H locs cells slots ls hH hl
  obtain ⟨rfl, rfl, h3, hh⟩ := id hH
  obtain ⟨hx, hb, hml, hown, hts⟩ := hC
  refine va_newaK (atype := .int) (N := N) hx hb (hts _ hw) (g := F0 m pc ls (.int v :: st)) rfl d rfl hv hN (by show N * 4 ≤ _; omega) hr1 hr2 h3 (fun H1 cA e1 z1 o1 _ hf => ?_)
  have hcA : cA = ac 0 := Option.some.inj (hf.symm.trans (hK.1.2 0 _ rfl).2)
  subst hcA
  exact grow_step hA hL hE hH hl z1 o1 (kd := .inr (0, N)) e1 kk
theorem vv_newaG_byte (hC : VOk C cc nL own) (hK : KK D ac (vS C)) (hA : adR ad) (hL : LayOk ad kn) (hE : ExG ad kn0 (vS C).heap.size Ex) (hw : Cond.arrayClass .byte ∈ lw_all) {v : Int32} {N : Nat} (hv : ¬ v < 0) (hN : v.toNatClampNeg = N) (hb9 : N ≤ 60000000) (hr1 : c + 1 ≤ (vR C).cells) (hr2 : n + N ≤ (vR C).slots) (d : decode cc pc = .ok (.newarray .byte, 2))
    (kk : LayOk ad (kset kn (100000 + h) (.inr (1, N))) → (∀ j kd', kn j = some kd' → j ≠ 100000 + h) → VV C nL (HPG D ac ad (kset kn (100000 + h) (.inr (1, N))) Ex kn0 (vS C) (h + 1) (c + 1) (n + N)) Qf (wclr μ (100000 + h), ()) (pc + 2) lv (.ref (ad (100000 + h)) :: st)) : VV C nL (HPG D ac ad kn Ex kn0 (vS C) h c n) Qf (μ, ()) pc lv (.int v :: st) := by
  obtain ⟨p, l, e, R, s, m, args, below, meth, cd⟩ := C
  intro H locs cells slots ls hH hl
  obtain ⟨rfl, rfl, h3, hh⟩ := id hH
  obtain ⟨hx, hb, hml, hown, hts⟩ := hC
  refine va_newaK (atype := .byte) (N := N) hx hb (hts _ hw) (g := F0 m pc ls (.int v :: st)) rfl d rfl hv hN (by show N * 1 ≤ _; omega) hr1 hr2 h3 (fun H1 cA e1 z1 o1 _ hf => ?_)
  have hcA : cA = ac 1 := Option.some.inj (hf.symm.trans (hK.1.2 1 _ rfl).2)
  subst hcA
  exact grow_step hA hL hE hH hl z1 o1 (kd := .inr (1, N)) e1 kk
theorem vv_newaG_boolean (hC : VOk C cc nL own) (hK : KK D ac (vS C)) (hA : adR ad) (hL : LayOk ad kn) (hE : ExG ad kn0 (vS C).heap.size Ex) (hw : Cond.arrayClass .boolean ∈ lw_all) {v : Int32} {N : Nat} (hv : ¬ v < 0) (hN : v.toNatClampNeg = N) (hb9 : N ≤ 60000000) (hr1 : c + 1 ≤ (vR C).cells) (hr2 : n + N ≤ (vR C).slots) (d : decode cc pc = .ok (.newarray .boolean, 2))
    (kk : LayOk ad (kset kn (100000 + h) (.inr (2, N))) → (∀ j kd', kn j = some kd' → j ≠ 100000 + h) → VV C nL (HPG D ac ad (kset kn (100000 + h) (.inr (2, N))) Ex kn0 (vS C) (h + 1) (c + 1) (n + N)) Qf (wclr μ (100000 + h), ()) (pc + 2) lv (.ref (ad (100000 + h)) :: st)) : VV C nL (HPG D ac ad kn Ex kn0 (vS C) h c n) Qf (μ, ()) pc lv (.int v :: st) := by
  obtain ⟨p, l, e, R, s, m, args, below, meth, cd⟩ := C
  intro H locs cells slots ls hH hl
  obtain ⟨rfl, rfl, h3, hh⟩ := id hH
  obtain ⟨hx, hb, hml, hown, hts⟩ := hC
  refine va_newaK (atype := .boolean) (N := N) hx hb (hts _ hw) (g := F0 m pc ls (.int v :: st)) rfl d rfl hv hN (by show N * 1 ≤ _; omega) hr1 hr2 h3 (fun H1 cA e1 z1 o1 _ hf => ?_)
  have hcA : cA = ac 2 := Option.some.inj (hf.symm.trans (hK.1.2 2 _ rfl).2)
  subst hcA
  exact grow_step hA hL hE hH hl z1 o1 (kd := .inr (2, N)) e1 kk
theorem vv_newaG_long (hC : VOk C cc nL own) (hK : KK D ac (vS C)) (hA : adR ad) (hL : LayOk ad kn) (hE : ExG ad kn0 (vS C).heap.size Ex) (hw : Cond.arrayClass .long ∈ lw_all) {v : Int32} {N : Nat} (hv : ¬ v < 0) (hN : v.toNatClampNeg = N) (hb9 : N ≤ 60000000) (hr1 : c + 1 ≤ (vR C).cells) (hr2 : n + N ≤ (vR C).slots) (d : decode cc pc = .ok (.newarray .long, 2))
    (kk : LayOk ad (kset kn (100000 + h) (.inr (3, N))) → (∀ j kd', kn j = some kd' → j ≠ 100000 + h) → VV C nL (HPG D ac ad (kset kn (100000 + h) (.inr (3, N))) Ex kn0 (vS C) (h + 1) (c + 1) (n + N)) Qf (wclr μ (100000 + h), ()) (pc + 2) lv (.ref (ad (100000 + h)) :: st)) : VV C nL (HPG D ac ad kn Ex kn0 (vS C) h c n) Qf (μ, ()) pc lv (.int v :: st) := by
  obtain ⟨p, l, e, R, s, m, args, below, meth, cd⟩ := C
  intro H locs cells slots ls hH hl
  obtain ⟨rfl, rfl, h3, hh⟩ := id hH
  obtain ⟨hx, hb, hml, hown, hts⟩ := hC
  refine va_newaK (atype := .long) (N := N) hx hb (hts _ hw) (g := F0 m pc ls (.int v :: st)) rfl d rfl hv hN (by show N * 8 ≤ _; omega) hr1 hr2 h3 (fun H1 cA e1 z1 o1 _ hf => ?_)
  have hcA : cA = ac 3 := Option.some.inj (hf.symm.trans (hK.1.2 3 _ rfl).2)
  subst hcA
  exact grow_step hA hL hE hH hl z1 o1 (kd := .inr (3, N)) e1 kk
theorem vv_anewG_4 (hC : VOk C cc nL own) (hK : KK D ac (vS C)) (hA : adR ad) (hL : LayOk ad kn) (hE : ExG ad kn0 (vS C).heap.size Ex) {index : Nat} (hw : Cond.classLink own index "java/lang/Object" ∈ lw_all) {v : Int32} {N : Nat} (hv : ¬ v < 0) (hN : v.toNatClampNeg = N) (hb9 : N ≤ 60000000) (hr1 : c + 1 ≤ (vR C).cells) (hr2 : n + N ≤ (vR C).slots) (d : decode cc pc = .ok (.anewarray index, 3))
    (kk : LayOk ad (kset kn (100000 + h) (.inr (4, N))) → (∀ j kd', kn j = some kd' → j ≠ 100000 + h) → VV C nL (HPG D ac ad (kset kn (100000 + h) (.inr (4, N))) Ex kn0 (vS C) (h + 1) (c + 1) (n + N)) Qf (wclr μ (100000 + h), ()) (pc + 3) lv (.ref (ad (100000 + h)) :: st)) : VV C nL (HPG D ac ad kn Ex kn0 (vS C) h c n) Qf (μ, ()) pc lv (.int v :: st) := by
  obtain ⟨p, l, e, R, s, m, args, below, meth, cd⟩ := C
  intro H locs cells slots ls hH hl
  obtain ⟨rfl, rfl, h3, hh⟩ := id hH
  obtain ⟨hx, hb, hml, hown, hts⟩ := hC
  subst hN
  refine W.anew hx hb hown (hts _ hw) (va_AO.use hK.2.1.2.2.2.1) rfl d rfl hv (by omega) hr1 hr2 fun cA kA comp f1 f2 f3 f4 => ?_
  have hcA : cA = ac 4 := by
    obtain ⟨-, -, -, -, -, h8⟩ := (hK.1.2 4 _ rfl).2
    exact Option.some.inj (f1.symm.trans h8)
  subst hcA
  generalize hH1 : H.push ({ cls := ac 4, slots := Array.replicate v.toNatClampNeg .null, vm := .none } : Cell) = H1
  have z1 : H1.size = h + 1 := by rw [← hH1, Array.size_push, h3]
  have e1 : H1[h]? = some (arrV (ac 4) v.toNatClampNeg (fun _ => .null)) := by rw [← hH1, ← h3, Array.getElem?_push_size, ← arrV_new]
  have o1 : ∀ q : Nat, q < h → H1[q]? = H[q]? := fun q hq => by rw [← hH1, Array.getElem?_push, if_neg (Nat.ne_of_lt (by rw [h3]; exact hq))]
  rw [h3]
  exact grow_step hA hL hE hH hl z1 o1 (kd := .inr (4, v.toNatClampNeg)) e1 kk
theorem vv_anewG_5 (hC : VOk C cc nL own) (hK : KK D ac (vS C)) (hA : adR ad) (hL : LayOk ad kn) (hE : ExG ad kn0 (vS C).heap.size Ex) {index : Nat} (hw : Cond.classLink own index RX3 ∈ lw_all) {v : Int32} {N : Nat} (hv : ¬ v < 0) (hN : v.toNatClampNeg = N) (hb9 : N ≤ 60000000) (hr1 : c + 1 ≤ (vR C).cells) (hr2 : n + N ≤ (vR C).slots) (d : decode cc pc = .ok (.anewarray index, 3))
    (kk : LayOk ad (kset kn (100000 + h) (.inr (5, N))) → (∀ j kd', kn j = some kd' → j ≠ 100000 + h) → VV C nL (HPG D ac ad (kset kn (100000 + h) (.inr (5, N))) Ex kn0 (vS C) (h + 1) (c + 1) (n + N)) Qf (wclr μ (100000 + h), ()) (pc + 3) lv (.ref (ad (100000 + h)) :: st)) : VV C nL (HPG D ac ad kn Ex kn0 (vS C) h c n) Qf (μ, ()) pc lv (.int v :: st) := by
  obtain ⟨p, l, e, R, s, m, args, below, meth, cd⟩ := C
  intro H locs cells slots ls hH hl
  obtain ⟨rfl, rfl, h3, hh⟩ := id hH
  obtain ⟨hx, hb, hml, hown, hts⟩ := hC
  subst hN
  refine W.anew hx hb hown (hts _ hw) (va_AO.use hK.2.1.2.2.2.2.1) rfl d rfl hv (by omega) hr1 hr2 fun cA kA comp f1 f2 f3 f4 => ?_
  have hcA : cA = ac 5 := by
    obtain ⟨-, -, -, -, -, h8⟩ := (hK.1.2 5 _ rfl).2
    exact Option.some.inj (f1.symm.trans h8)
  subst hcA
  generalize hH1 : H.push ({ cls := ac 5, slots := Array.replicate v.toNatClampNeg .null, vm := .none } : Cell) = H1
  have z1 : H1.size = h + 1 := by rw [← hH1, Array.size_push, h3]
  have e1 : H1[h]? = some (arrV (ac 5) v.toNatClampNeg (fun _ => .null)) := by rw [← hH1, ← h3, Array.getElem?_push_size, ← arrV_new]
  have o1 : ∀ q : Nat, q < h → H1[q]? = H[q]? := fun q hq => by rw [← hH1, Array.getElem?_push, if_neg (Nat.ne_of_lt (by rw [h3]; exact hq))]
  rw [h3]
  exact grow_step hA hL hE hH hl z1 o1 (kd := .inr (5, v.toNatClampNeg)) e1 kk
theorem vv_anewG_7 (hC : VOk C cc nL own) (hK : KK D ac (vS C)) (hA : adR ad) (hL : LayOk ad kn) (hE : ExG ad kn0 (vS C).heap.size Ex) {index : Nat} (hw : Cond.classLink own index RX12 ∈ lw_all) {v : Int32} {N : Nat} (hv : ¬ v < 0) (hN : v.toNatClampNeg = N) (hb9 : N ≤ 60000000) (hr1 : c + 1 ≤ (vR C).cells) (hr2 : n + N ≤ (vR C).slots) (d : decode cc pc = .ok (.anewarray index, 3))
    (kk : LayOk ad (kset kn (100000 + h) (.inr (7, N))) → (∀ j kd', kn j = some kd' → j ≠ 100000 + h) → VV C nL (HPG D ac ad (kset kn (100000 + h) (.inr (7, N))) Ex kn0 (vS C) (h + 1) (c + 1) (n + N)) Qf (wclr μ (100000 + h), ()) (pc + 3) lv (.ref (ad (100000 + h)) :: st)) : VV C nL (HPG D ac ad kn Ex kn0 (vS C) h c n) Qf (μ, ()) pc lv (.int v :: st) := by
  obtain ⟨p, l, e, R, s, m, args, below, meth, cd⟩ := C
  intro H locs cells slots ls hH hl
  obtain ⟨rfl, rfl, h3, hh⟩ := id hH
  obtain ⟨hx, hb, hml, hown, hts⟩ := hC
  subst hN
  refine W.anew hx hb hown (hts _ hw) (va_AO.use hK.2.1.2.2.2.2.2) rfl d rfl hv (by omega) hr1 hr2 fun cA kA comp f1 f2 f3 f4 => ?_
  have hcA : cA = ac 7 := by
    obtain ⟨-, -, -, -, -, h8⟩ := (hK.1.2 7 _ rfl).2
    exact Option.some.inj (f1.symm.trans h8)
  subst hcA
  generalize hH1 : H.push ({ cls := ac 7, slots := Array.replicate v.toNatClampNeg .null, vm := .none } : Cell) = H1
  have z1 : H1.size = h + 1 := by rw [← hH1, Array.size_push, h3]
  have e1 : H1[h]? = some (arrV (ac 7) v.toNatClampNeg (fun _ => .null)) := by rw [← hH1, ← h3, Array.getElem?_push_size, ← arrV_new]
  have o1 : ∀ q : Nat, q < h → H1[q]? = H[q]? := fun q hq => by rw [← hH1, Array.getElem?_push, if_neg (Nat.ne_of_lt (by rw [h3]; exact hq))]
  rw [h3]
  exact grow_step hA hL hE hH hl z1 o1 (kd := .inr (7, v.toNatClampNeg)) e1 kk
end Grow2
section Put2
variable {ε : Type} {C : VCx} {nL : Nat} {HP : WS × ε → Heap → List Loc → Nat → Nat → Prop} {Qf : State → Prop} {μ : WS} {z : ε} {pc : Nat} {lv : List (Nat × Value)} {st : List Value} {cc : ByteArray} {own : String} {D : va_G} {ac : Nat → ClassId} {ad : Nat → Nat} {kn : KN} {Ex : Heap → Prop}
/-- the method that runs is a constructor -/
def vI (C : VCx) : Prop := C.2.2.2.2.2.2.2.2.1.name = "<init>"
theorem vv_put0F (hC : VOk C cc nL own) (hI : vI C) (hR : RegOk HP D ac ad kn Ex) (hK : KK D ac (vS C)) {index ci N k : Nat} {ty : FieldType} (hF : FAcc own index ci N k ty true) (hd : ∀ Cn T, clAll[ci]? = some (Cn, T, N) → (T k).1 = own) (j : Nat) {ft : Nat → FK} (hj : kn j = some (.inl (ci, N, ft))) {v : Value} (hn : narrow ty v = v) (hf : fits ty v = true) {μ' : WS}
    (hv : ∀ q, q < N → updV (fval ad ft (μ.1 j) (μ.2.1 j) (μ.2.2 j)) k v q = fval ad ft (μ'.1 j) (μ'.2.1 j) (μ'.2.2 j) q) (ho : ∀ j', j' ≠ j → μ'.1 j' = μ.1 j' ∧ μ'.2.1 j' = μ.2.1 j' ∧ μ'.2.2 j' = μ.2.2 j')
    (d : decode cc pc = .ok (.putfield index, 3)) (kk : VV C nL HP Qf (μ', z) (pc + 3) lv st) : VV C nL HP Qf (μ, z) pc lv (v :: .ref (ad j) :: st) := by
  obtain ⟨p, l, e, R, s, m, args, below, meth, c⟩ := C
  intro H locs cells slots ls hH hl
  obtain ⟨Cn, T, ty0, hc, hk, hin, hlink, hty, hnm, hty1, hfin⟩ := hF
  obtain ⟨hx, hb, hml, hown, hts⟩ := hC
  have hap := va_apart (own := own) hts hin ty0 hty hnm hK.1 hc
  obtain ⟨cell, q1, q2, q3, q4⟩ : t_OB (ad j) (D.1 ci) N (D.2 ci) H (fval ad ft (μ.1 j) (μ.2.1 j) (μ.2.2 j)) := hR.2.1 _ _ _ _ _ hH j _ hj
  obtain ⟨hS, hfc, kC, hkC, hkind⟩ := hK.1.1 ci _ hc
  obtain ⟨cf, kf, fi, f, hi, hsl⟩ := hS k hk
  have hlay := hts _ (hin _ (u_in_lay hk))
  unfold u_lay at hlay
  rw [if_pos hfin] at hlay
  have hst := (u_facts hfc hkC (u_lays hts hin hk) hi).1
  have hcf : m.cls = cf := by
    obtain ⟨_, _, c', _, _, _, -, -, hf', -, -, -, hown2, -⟩ := Cond.laysFinal_spec hlay
    have e1 : c' = cf := by have := hi.symm.trans hf'; simp at this; exact this.1.symm
    rw [hd Cn T hc] at hown2
    rw [← e1]; exact Option.some.inj (hown.symm.trans hown2)
  have h6 := u_fits hfc hkC hkind (Or.inr hlay) hi ((hty k hk).trans (by rw [hty1])) hn hf
  refine W.putFinK hx hb hown (hts _ hlink) hi hst hcf hI (by rw [q2]; exact h6) q1 q3 (by rw [hsl]; exact k2_hasslot (q4 k hk)) rfl rfl d fun H' e1 e2 e3 => ?_
  rw [hsl] at e1 ⊢
  exact kk H' _ cells slots ls (reg_one hR hH hj (μ' := μ') (t_OB.to (V := updV (fval ad ft (μ.1 j) (μ.2.1 j) (μ.2.2 j)) k v) ⟨_, e1, q2, q3, t_set q4 hap hk v⟩ hv) e2 e3 ho) hl
theorem upd_i {ft : Nat → FK} {k : Nat} (hft : ft k = .inl 0) (μ : WS) (j : Nat) (v : Int32) (q : Nat) : updV (fval ad ft (μ.1 j) (μ.2.1 j) (μ.2.2 j)) k (.int v) q = fval ad ft ((wset μ j k v).1 j) ((wset μ j k v).2.1 j) ((wset μ j k v).2.2 j) q := by
  by_cases hq : q = k
  · subst hq; simp [updV, fval, hft, wset]
  · simp only [updV, if_neg hq, fval, wset]
    cases ft q with
    | inl n => match n with
      | 0 => simp [hq]
      | 1 => rfl
      | _ + 2 => rfl
    | inr v => rfl
theorem upd_r {ft : Nat → FK} {k : Nat} (hft : ft k = .inl 2) (μ : WS) (j : Nat) (v : Option Nat) (q : Nat) : updV (fval ad ft (μ.1 j) (μ.2.1 j) (μ.2.2 j)) k (va_rf (v.map ad)) q = fval ad ft ((wsetR μ j k v).1 j) ((wsetR μ j k v).2.1 j) ((wsetR μ j k v).2.2 j) q := by
  by_cases hq : q = k
  · subst hq; simp [updV, fval, hft, wsetR]
  · simp only [updV, if_neg hq, fval, wsetR]
    cases ft q with
    | inl n => match n with
      | 0 => rfl
      | 1 => rfl
      | _ + 2 => simp [hq]
    | inr v => rfl
def isRefT (t : FieldType) : Bool := match t with
  | .object _ => true
  | .array _ => true
  | _ => false
theorem ref_nf {ty : FieldType} (h : isRefT ty = true) (o : Option Nat) : narrow ty (va_rf o) = va_rf o ∧ fits ty (va_rf o) = true := by
  cases ty <;> first | (exact absurd h Bool.false_ne_true) | (cases o <;> exact ⟨rfl, rfl⟩)
/-- putfield of a reference -/
theorem vv_putq (hC : VOk C cc nL own) (hR : RegOk HP D ac ad kn Ex) (hK : KK D ac (vS C)) {index ci N k : Nat} {ty : FieldType} (hF : FAcc own index ci N k ty false) (hty : isRefT ty = true) (j : Nat) {ft : Nat → FK} (hj : kn j = some (.inl (ci, N, ft))) (hft : ft k = .inl 2) (b : Option Nat)
    (d : decode cc pc = .ok (.putfield index, 3)) (kk : VV C nL HP Qf (wsetR μ j k b, z) (pc + 3) lv st) : VV C nL HP Qf (μ, z) pc lv (va_rf (b.map ad) :: .ref (ad j) :: st) :=
  vv_put0 hC hR hK hF j hj (ref_nf hty _).1 (ref_nf hty _).2 (fun q _ => upd_r hft μ j b q) (wsetR_o μ j k b) d kk
theorem vv_putqF (hC : VOk C cc nL own) (hI : vI C) (hR : RegOk HP D ac ad kn Ex) (hK : KK D ac (vS C)) {index ci N k : Nat} {ty : FieldType} (hF : FAcc own index ci N k ty true) (hd : ∀ Cn T, clAll[ci]? = some (Cn, T, N) → (T k).1 = own) (hty : isRefT ty = true) (j : Nat) {ft : Nat → FK} (hj : kn j = some (.inl (ci, N, ft))) (hft : ft k = .inl 2) (b : Option Nat)
    (d : decode cc pc = .ok (.putfield index, 3)) (kk : VV C nL HP Qf (wsetR μ j k b, z) (pc + 3) lv st) : VV C nL HP Qf (μ, z) pc lv (va_rf (b.map ad) :: .ref (ad j) :: st) :=
  vv_put0F hC hI hR hK hF hd j hj (ref_nf hty _).1 (ref_nf hty _).2 (fun q _ => upd_r hft μ j b q) (wsetR_o μ j k b) d kk
theorem vv_putiF (hC : VOk C cc nL own) (hI : vI C) (hR : RegOk HP D ac ad kn Ex) (hK : KK D ac (vS C)) {index ci N k : Nat} {ty : FieldType} (hF : FAcc own index ci N k ty true) (hd : ∀ Cn T, clAll[ci]? = some (Cn, T, N) → (T k).1 = own) (j : Nat) {ft : Nat → FK} (hj : kn j = some (.inl (ci, N, ft))) (hft : ft k = .inl 0) {v : Int32} (hn : narrow ty (.int v) = .int v) (hf : fits ty (.int v) = true)
    (d : decode cc pc = .ok (.putfield index, 3)) (kk : VV C nL HP Qf (wset μ j k v, z) (pc + 3) lv st) : VV C nL HP Qf (μ, z) pc lv (.int v :: .ref (ad j) :: st) :=
  vv_put0F hC hI hR hK hF hd j hj hn hf (fun q _ => upd_i hft μ j v q) (wset_o μ j k v) d kk
/-- Object's own constructor -/
theorem vv_objInit (hC : VOk C cc nL own) {idx : Nat} (hw1 : Cond.methodLink own idx Lib.objectInit ∈ lw_all) (hw2 : Cond.instanceMethod Lib.objectInit ∈ lw_all) (hw3 : Cond.code Lib.objectInit ⟨#[0xb1]⟩ 1 none ∈ lw_all) {a : Nat} (hrm : 1 ≤ (vR C).frames ∧ (st.map fun v => v.category).sum + 12 ≤ (vR C).locals) (d : decode cc pc = .ok (.invokespecial idx, 3)) {x : WS × ε} (kk : VV C nL HP Qf x (pc + 3) lv st) : VV C nL HP Qf x pc lv (.ref a :: st) := by
  obtain ⟨p, l, e, R, s, m, args, below, meth, c⟩ := C
  intro H locs cells slots ls hH hl
  obtain ⟨hx, hb, hml, hown, hts⟩ := hC
  exact W.objInit hx hb hown (hts _ hw1) (hts _ hw2) (hts _ hw3) rfl (by rw [hml]; exact hl.1) rfl d hrm.1 (by show 2 * 0 + _ + 12 ≤ _; have := hrm.2; simp only [vR] at this; omega) (kk H locs cells slots ls hH hl)
end Put2
