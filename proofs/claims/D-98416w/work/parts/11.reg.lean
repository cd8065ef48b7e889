/-! the classes and array classes of the whole system; regions: cells by number, at addresses that a layout gives; their contents as functions -/
set_option maxRecDepth 10000
abbrev clAll : List vw_C := [(RX0, TX0, 31), (RX1, TX1, 7), (RX2, TX2, 8), (RX3, TX3, 12), (RX4, TX4, 69), (RX5, TX5, 13), (RX6, TX6, 8), (RX7, TX7, 1), (RX8, TX8, 1), (RX9, TX9, 3), (RX10, TX10, 3), (RJ2, TJ2, 3), (RX12, TX12, 4), (RX13, TX13, 5), (RX14, TX14, 5), (RX15, TX15, 5), (RJ4, TJ4, 4), (RJ5, TJ5, 4)]
abbrev tysAll (ac : Nat → ClassId) : List (ClassId × FieldType) := [(ac 0, .int), (ac 1, .byte), (ac 2, .boolean), (ac 3, .long), (ac 4, .object "java/lang/Object"), (ac 5, .object RX3), (ac 6, .array .int), (ac 7, .object RX12)]
/-- words that don't ride in the list: links of nest mates, casts -/
def kxW : List Cond := [.castable RX12 RX11, .castable RX13 RX11, .castable RX14 RX11, .castable RX15 RX11, .castable RX12 "java/lang/Object", .castable RX13 "java/lang/Object", .castable RX14 "java/lang/Object", .castable RX15 "java/lang/Object", .castable RX10 "java/lang/Object", .castable RX6 RX6, .fieldLinkNest RX13 30 RX0 "book" "LSealCasts$Book;" RX0, .fieldLinkNest RX13 19 RX0 "now" "LSealCasts$Chest;" RX0, .fieldLinkNest RX5 35 RX0 "tape" "[B" RX0, .fieldLinkNest RX5 32 RX0 "taped" "I" RX0, .methodLinkNest RX0 19 yX1_init RX0, .methodLinkNest RX0 26 yX3_init RX0, .methodLinkNest RX0 108 yX5_init RX0, .methodLinkNest RX1 22 yX2_init RX0, .methodLinkNest RX5 23 yX1_init RX0]
def kxN : List (String × String) := [(RX12, RX13), (RX12, RX14), (RX12, RX15), (RX13, RX12), (RX13, RX14), (RX13, RX15), (RX14, RX12), (RX14, RX13), (RX14, RX15), (RX15, RX12), (RX15, RX13), (RX15, RX14)]
def yNode_of : MethodName := ⟨"SealCasts$Node", "of", "(LSealCasts$Ask;)I"⟩
def kxF : List (String × MethodName) := [(RX7, yX7_of), (RX8, yX8_of), (RX9, yX9_of), (RX16, yX16_of), (RX17, yX17_of), (RX18, yX18_of), (RX19, yX19_of), (RX20, yX20_of), (RX21, yX21_of), (RX22, yX22_of), (RX23, yX23_of)]
def isWm : Cond → Bool
  | .castable _ _ => true
  | .fieldLinkNest _ _ _ _ _ _ => true
  | .methodLinkNest _ _ _ _ => true
  | _ => false
theorem kxW_wm : kxW.all isWm = true := by decide +kernel
theorem Nw_warm {w : Cond} (h : isWm w = true) {s U : State} (hW : s.WarmedH U.vm) (hZ : va_Nw w s) : va_Nw w U := by
  cases w <;> first | (exact absurd h Bool.false_ne_true) | exact va_Nw.warmC hW hZ | exact va_Nw.warmF hW hZ | exact va_Nw.warmM hW hZ
theorem Nw_tabs {w : Cond} (h : isWm w = true) : w.onTables = true := by
  cases w <;> first | (exact absurd h Bool.false_ne_true) | rfl
def KX (U : State) : Prop := (∀ w ∈ kxW, va_Nw w U) ∧ (∀ q ∈ kxN, va_Nc q.1 q.2 U) ∧ (∀ q ∈ kxF, va_Fw q.1 yNode_of q.2 U) ∧ va_AO "java/lang/Object" U ∧ va_AO RX3 U ∧ va_AO RX12 U
theorem KX.warm {s U : State} (hW : s.WarmedH U.vm) (h : KX s) : KX U := by
  obtain ⟨h1, h2, h3, h4, h5, h6⟩ := h
  refine ⟨fun w hw => Nw_warm (List.all_eq_true.mp kxW_wm w hw) hW (h1 w hw), fun q hq => (h2 q hq).moved hW.alike, fun q hq => (h3 q hq).moved (by decide) hW.alike, h4.moved hW.alike, h5.moved hW.alike, h6.moved hW.alike⟩
theorem KX.same {s U : State} (hW : s.vm = U.vm) (h : KX s) : KX U := by
  have ha : s.vm.Alike U.vm := hW ▸ Vm.Alike.refl s.vm
  obtain ⟨h1, h2, h3, h4, h5, h6⟩ := h
  exact ⟨fun w hw => va_Nw.same (Nw_tabs (List.all_eq_true.mp kxW_wm w hw)) hW (h1 w hw), fun q hq => (h2 q hq).moved ha, fun q hq => (h3 q hq).moved (by decide) ha, h4.moved ha, h5.moved ha, h6.moved ha⟩
def askN : Nat → String := fun k => match k with
  | 0 => RX16
  | 1 => RX17
  | 2 => RX18
  | 3 => RX19
  | 4 => RX20
  | 5 => RX21
  | 6 => RX22
  | _ => RX23
theorem ClassAt.moved {u U : State} (hvm : u.vm.Alike U.vm) {C : String} {cC : ClassId} (h : ClassAt u C cC) : ClassAt U C cC := (u_Kn_moved (T := TX2) (N := 0) (iS := fun _ => 0) hvm ⟨fun k hk => absurd hk (Nat.not_lt_zero k), h⟩).2
/-- all that is known of classes: the classes' fields, array classes, words, the constants' classes (ac 20 ..) -/
def KK (D : va_G) (ac : Nat → ClassId) (U : State) : Prop := va_K D clAll (tysAll ac) U ∧ KX U ∧ ∀ k, k < 8 → ClassAt U (askN k) (ac (20 + k))
theorem KK.warm {D : va_G} {ac : Nat → ClassId} {s U : State} (hW : s.WarmedH U.vm) (h : KK D ac s) : KK D ac U := ⟨va_K.moved hW.alike h.1, h.2.1.warm hW, fun k hk => (h.2.2 k hk).moved hW.alike⟩
theorem KK.calling {D : va_G} {ac : Nat → ClassId} {U : State} {g : JFrame} {mk : MethodId} {a : Array Value} (h : KK D ac U) : KK D ac (U.calling g mk a) := ⟨va_K.moved (u := U) (U := U.calling g mk a) (Vm.Alike.refl U.vm) h.1, h.2.1.same (s := U) (U := U.calling g mk a) rfl, fun k hk => (h.2.2 k hk).moved (u := U) (U := U.calling g mk a) (Vm.Alike.refl U.vm)⟩
/-- contents: ints, longs, references, by cell and place -/
abbrev WS : Type := (Nat → Nat → Int32) × (Nat → Nat → Int64) × (Nat → Nat → Option Nat)
/-- a cell's kind: an object (class, number of fields, each field: .inl 0 int, .inl 1 long, .inl 2 a reference (a cell's number), .inr o a constant one), or an array (element type, length). Cell j lies at ad j. -/
abbrev FK : Type := Nat ⊕ Option Nat
abbrev KD : Type := (Nat × Nat × (Nat → FK)) ⊕ (Nat × Nat)
abbrev KN : Type := Nat → Option KD
def wset (μ : WS) (k i : Nat) (v : Int32) : WS := (fun a b => if a = k ∧ b = i then v else μ.1 a b, μ.2)
def wsetL (μ : WS) (k i : Nat) (v : Int64) : WS := (μ.1, fun a b => if a = k ∧ b = i then v else μ.2.1 a b, μ.2.2)
def wsetR (μ : WS) (k i : Nat) (v : Option Nat) : WS := (μ.1, μ.2.1, fun a b => if a = k ∧ b = i then v else μ.2.2 a b)
theorem wset_1 (μ : WS) (k i : Nat) (v : Int32) (a b : Nat) : (wset μ k i v).1 a b = if a = k ∧ b = i then v else μ.1 a b := rfl
theorem wset_2 (μ : WS) (k i : Nat) (v : Int32) : (wset μ k i v).2 = μ.2 := rfl
theorem wsetL_1 (μ : WS) (k i : Nat) (v : Int64) : (wsetL μ k i v).1 = μ.1 := rfl
theorem wsetL_2 (μ : WS) (k i : Nat) (v : Int64) (a b : Nat) : (wsetL μ k i v).2.1 a b = if a = k ∧ b = i then v else μ.2.1 a b := rfl
theorem wsetL_3 (μ : WS) (k i : Nat) (v : Int64) : (wsetL μ k i v).2.2 = μ.2.2 := rfl
theorem wsetR_1 (μ : WS) (k i : Nat) (v : Option Nat) : (wsetR μ k i v).1 = μ.1 := rfl
theorem wsetR_2 (μ : WS) (k i : Nat) (v : Option Nat) : (wsetR μ k i v).2.1 = μ.2.1 := rfl
theorem wsetR_3 (μ : WS) (k i : Nat) (v : Option Nat) (a b : Nat) : (wsetR μ k i v).2.2 a b = if a = k ∧ b = i then v else μ.2.2 a b := rfl
def fval (ad : Nat → Nat) (ft : Nat → FK) (f : Nat → Int32) (g : Nat → Int64) (r : Nat → Option Nat) (k : Nat) : Value :=
  match ft k with
  | .inl 0 => .int (f k)
  | .inl 1 => .long (g k)
  | .inl _ => va_rf ((r k).map ad)
  | .inr o => va_rf (o.map ad)
def acon (ad : Nat → Nat) (t n : Nat) (f : Nat → Int32) (g : Nat → Int64) (r : Nat → Option Nat) : vp_A := (n, if t < 3 then .inl f else if t = 3 then .inr (.inl g) else .inr (.inr (.inr (.inr (fun i => (r i).map ad)))))
def cellOK (D : va_G) (ac : Nat → ClassId) (ad : Nat → Nat) (a : Nat) (kd : KD) (f : Nat → Int32) (g : Nat → Int64) (r : Nat → Option Nat) (H : Heap) : Prop := match kd with
  | .inl (ci, N, ft) => t_OB a (D.1 ci) N (D.2 ci) H (fval ad ft f g r)
  | .inr (t, n) => H[a]? = some (vp_cell (ac t) (acon ad t n f g r))
theorem cellOK.kept {D : va_G} {ac : Nat → ClassId} {ad : Nat → Nat} {a : Nat} {kd : KD} {f : Nat → Int32} {g : Nat → Int64} {r : Nat → Option Nat} {H H1 : Heap} (h : cellOK D ac ad a kd f g r H) (hq : H1[a]? = H[a]?) : cellOK D ac ad a kd f g r H1 := by
  obtain ⟨ci, N, ft⟩ | ⟨t, n⟩ := kd
  · exact t_OB.kept h hq
  · exact hq.trans h
def HW (D : va_G) (ac : Nat → ClassId) (ad : Nat → Nat) (kn : KN) (μ : WS) (H : Heap) : Prop := ∀ (j : Nat) (kd : KD), kn j = some kd → cellOK D ac ad (ad j) kd (μ.1 j) (μ.2.1 j) (μ.2.2 j) H
def inLay (ad : Nat → Nat) (kn : KN) (q : Nat) : Prop := ∃ (j : Nat) (kd : KD), kn j = some kd ∧ ad j = q
def LayOk (ad : Nat → Nat) (kn : KN) : Prop := ∀ (j j' : Nat) (kd kd' : KD), kn j = some kd → kn j' = some kd' → ad j = ad j' → j = j'
/-- one cell of a region changes -/
theorem HW.set {D : va_G} {ac : Nat → ClassId} {ad : Nat → Nat} {kn : KN} {μ μ' : WS} {H H1 : Heap} (h : HW D ac ad kn μ H) (hL : LayOk ad kn) {j : Nat} {kd : KD} (hj : kn j = some kd) (he : cellOK D ac ad (ad j) kd (μ'.1 j) (μ'.2.1 j) (μ'.2.2 j) H1) (oq : ∀ q : Nat, q ≠ ad j → H1[q]? = H[q]?) (ho : ∀ j', j' ≠ j → μ'.1 j' = μ.1 j' ∧ μ'.2.1 j' = μ.2.1 j' ∧ μ'.2.2 j' = μ.2.2 j') : HW D ac ad kn μ' H1 := by
  intro j' kd' hj'
  by_cases hjj : j' = j
  · subst hjj
    have e := Option.some.inj (hj'.symm.trans hj)
    cases e
    exact he
  · obtain ⟨o1, o2, o3⟩ := ho j' hjj
    rw [o1, o2, o3]
    refine (h j' kd' hj').kept (oq (ad j') ?_)
    intro hz
    exact hjj (hL j' j kd' kd hj' hj hz)
/-- a class's field at an index of own's pool -/
def FAcc (own : String) (index ci N k : Nat) (ty : FieldType) (fin : Bool) : Prop := ∃ (Cn : String) (T : u_T) (ty0 : Nat → FieldType), clAll[ci]? = some (Cn, T, N) ∧ k < N ∧ (∀ w ∈ u_ws Cn T N, w ∈ lw_all) ∧ Cond.fieldLink own index (T k).1 (T k).2.1 (T k).2.2.1 ∈ lw_all ∧ (∀ q, q < N → parseFieldDescriptor (T q).2.2.1 = some (ty0 q)) ∧ (∀ a, a < N → ∀ b, b < N → a ≠ b → (T a).2.1 ≠ (T b).2.1) ∧ ty0 k = ty ∧ (T k).2.2.2 = fin
def ExOk (ad : Nat → Nat) (kn : KN) (Ex : Heap → Prop) : Prop := ∀ H H' : Heap, H'.size = H.size → (∀ q : Nat, ¬ inLay ad kn q → H'[q]? = H[q]?) → Ex H → Ex H'
def RegOk {ε : Type} (HP : WS × ε → Heap → List Loc → Nat → Nat → Prop) (D : va_G) (ac : Nat → ClassId) (ad : Nat → Nat) (kn : KN) (Ex : Heap → Prop) : Prop :=
  LayOk ad kn ∧ (∀ x H locs c n, HP x H locs c n → HW D ac ad kn x.1 H) ∧
  (∀ x H locs c n μ' H' L, HP x H locs c n → HW D ac ad kn μ' H' → H'.size = H.size → (∀ q : Nat, ¬ inLay ad kn q → H'[q]? = H[q]?) → (∀ l ∈ L, inLay ad kn l.base) → HP (μ', x.2) H' (locs ++ L) c n) ∧
  ∀ x H locs c n, HP x H locs c n → Ex H
section Reg
variable {ε : Type} {C : VCx} {nL : Nat} {HP : WS × ε → Heap → List Loc → Nat → Nat → Prop} {Qf : State → Prop} {μ : WS} {z : ε} {pc : Nat} {lv : List (Nat × Value)} {st : List Value} {cc : ByteArray} {own : String} {D : va_G} {ac : Nat → ClassId} {ad : Nat → Nat} {kn : KN} {Ex : Heap → Prop}
theorem vv_getf (hC : VOk C cc nL own) (hR : RegOk HP D ac ad kn Ex) (hK : KK D ac (vS C)) {index ci N k : Nat} {ty : FieldType} {fin : Bool} (hF : FAcc own index ci N k ty fin) (j : Nat) {ft : Nat → FK} (hj : kn j = some (.inl (ci, N, ft))) {v : Value} (hv : fval ad ft (μ.1 j) (μ.2.1 j) (μ.2.2 j) k = v)
    (d : decode cc pc = .ok (.getfield index, 3)) (kk : VV C nL HP Qf (μ, z) (pc + 3) lv (v :: st)) : VV C nL HP Qf (μ, z) pc lv (.ref (ad j) :: st) := by
  obtain ⟨p, l, e, R, s, m, args, below, meth, c⟩ := C
  intro H locs cells slots ls hH hl
  obtain ⟨Cn, T, ty0, hc, hk, hin, hlink, -⟩ := hF
  obtain ⟨hx, hb, hml, hown, hts⟩ := hC
  obtain ⟨cell, q1, q2, q3, q4⟩ : t_OB (ad j) (D.1 ci) N (D.2 ci) H (fval ad ft (μ.1 j) (μ.2.1 j) (μ.2.2 j)) := hR.2.1 _ _ _ _ _ hH j _ hj
  obtain ⟨hS, hfc, kC, hkC, hkind⟩ := hK.1.1 ci _ hc
  obtain ⟨cf, kf, fi, f, hi, hsl⟩ := hS k hk
  refine W.getf hx hb hown (hts _ hlink) hi (u_facts hfc hkC (u_lays hts hin hk) hi).1 q1 (by rw [q3]; exact fun h => by cases h) (v := v) ?_ rfl rfl d (kk H locs cells slots ls hH hl)
  rw [hsl, q4 k hk, hv]
theorem reg_one (hR : RegOk HP D ac ad kn Ex) {H H' : Heap} {locs : List Loc} {c n : Nat} (hH : HP (μ, z) H locs c n) {j i : Nat} {kd : KD} (hj : kn j = some kd) {μ' : WS} (he : cellOK D ac ad (ad j) kd (μ'.1 j) (μ'.2.1 j) (μ'.2.2 j) H') (hs : H'.size = H.size) (oq : ∀ q : Nat, q ≠ ad j → H'[q]? = H[q]?) (ho : ∀ j', j' ≠ j → μ'.1 j' = μ.1 j' ∧ μ'.2.1 j' = μ.2.1 j' ∧ μ'.2.2 j' = μ.2.2 j') : HP (μ', z) H' (locs ++ [⟨ad j, i⟩]) c n := by
  refine hR.2.2.1 (μ, z) H locs c n μ' H' [⟨ad j, i⟩] hH ((hR.2.1 _ _ _ _ _ hH).set hR.1 hj he oq ho) hs (fun q hq => oq q ?_) ?_
  · intro h; subst h; exact hq ⟨j, kd, hj, rfl⟩
  · intro l hl
    rw [List.mem_singleton] at hl
    subst hl
    exact ⟨j, kd, hj, rfl⟩
theorem vv_put0 (hC : VOk C cc nL own) (hR : RegOk HP D ac ad kn Ex) (hK : KK D ac (vS C)) {index ci N k : Nat} {ty : FieldType} (hF : FAcc own index ci N k ty false) (j : Nat) {ft : Nat → FK} (hj : kn j = some (.inl (ci, N, ft))) {v : Value} (hn : narrow ty v = v) (hf : fits ty v = true) {μ' : WS}
    (hv : ∀ q, q < N → updV (fval ad ft (μ.1 j) (μ.2.1 j) (μ.2.2 j)) k v q = fval ad ft (μ'.1 j) (μ'.2.1 j) (μ'.2.2 j) q) (ho : ∀ j', j' ≠ j → μ'.1 j' = μ.1 j' ∧ μ'.2.1 j' = μ.2.1 j' ∧ μ'.2.2 j' = μ.2.2 j')
    (d : decode cc pc = .ok (.putfield index, 3)) (kk : VV C nL HP Qf (μ', z) (pc + 3) lv st) : VV C nL HP Qf (μ, z) pc lv (v :: .ref (ad j) :: st) := by
  obtain ⟨p, l, e, R, s, m, args, below, meth, c⟩ := C
  intro H locs cells slots ls hH hl
  obtain ⟨Cn, T, ty0, hc, hk, hin, hlink, hty, hnm, hty1, hfin⟩ := hF
  obtain ⟨hx, hb, hml, hown, hts⟩ := hC
  have hap := va_apart (own := own) hts hin ty0 hty hnm hK.1 hc
  obtain ⟨cell, q1, q2, q3, q4⟩ : t_OB (ad j) (D.1 ci) N (D.2 ci) H (fval ad ft (μ.1 j) (μ.2.1 j) (μ.2.2 j)) := hR.2.1 _ _ _ _ _ hH j _ hj
  obtain ⟨hS, hfc, kC, hkC, hkind⟩ := hK.1.1 ci _ hc
  obtain ⟨cf, kf, fi, f, hi, hsl⟩ := hS k hk
  have hlay := hts _ (hin _ (u_in_lay hk))
  unfold u_lay at hlay
  rw [if_neg (by rw [hfin]; decide)] at hlay
  have hst := (u_facts hfc hkC (u_lays hts hin hk) hi).1
  have h6 := u_store hfc hkC hkind hlay hi ((hty k hk).trans (by rw [hty1])) hn hf
  refine W.putK hx hb (f := f) ⟨hown, hts _ hlink, ⟨_, _, _, hi⟩, hst⟩ (by rw [q2]; exact h6) q1 q3 (by rw [hsl]; exact k2_hasslot (q4 k hk)) rfl rfl d fun H' e1 e2 e3 => ?_
  rw [hsl] at e1 ⊢
  exact kk H' _ cells slots ls (reg_one hR hH hj (μ' := μ') (t_OB.to (V := updV (fval ad ft (μ.1 j) (μ.2.1 j) (μ.2.2 j)) k v) ⟨_, e1, q2, q3, t_set q4 hap hk v⟩ hv) e2 e3 ho) hl
theorem wset_o (μ : WS) (k i : Nat) (v : Int32) : ∀ j', j' ≠ k → (wset μ k i v).1 j' = μ.1 j' ∧ (wset μ k i v).2.1 j' = μ.2.1 j' ∧ (wset μ k i v).2.2 j' = μ.2.2 j' := by
  intro j' h
  refine ⟨?_, rfl, rfl⟩
  funext b
  simp [wset, h]
theorem wsetL_o (μ : WS) (k i : Nat) (v : Int64) : ∀ j', j' ≠ k → (wsetL μ k i v).1 j' = μ.1 j' ∧ (wsetL μ k i v).2.1 j' = μ.2.1 j' ∧ (wsetL μ k i v).2.2 j' = μ.2.2 j' := by
  intro j' h
  refine ⟨rfl, ?_, rfl⟩
  funext b
  simp [wsetL, h]
theorem wsetR_o (μ : WS) (k i : Nat) (v : Option Nat) : ∀ j', j' ≠ k → (wsetR μ k i v).1 j' = μ.1 j' ∧ (wsetR μ k i v).2.1 j' = μ.2.1 j' ∧ (wsetR μ k i v).2.2 j' = μ.2.2 j' := by
  intro j' h
  refine ⟨rfl, rfl, ?_⟩
  funext b
  simp [wsetR, h]
theorem wset_s (μ : WS) (k i : Nat) (v : Int32) : (wset μ k i v).1 k = upd (μ.1 k) i v := by
  funext b; simp [wset, upd]
theorem wsetL_s (μ : WS) (k i : Nat) (v : Int64) : (wsetL μ k i v).2.1 k = vp_updL (μ.2.1 k) i v := by
  funext b; simp [wsetL, vp_updL]
theorem wsetR_s (μ : WS) (k i : Nat) (v : Option Nat) : (wsetR μ k i v).2.2 k = fun b => if b = i then v else μ.2.2 k b := by
  funext b; simp [wsetR]
theorem vv_puti (hC : VOk C cc nL own) (hR : RegOk HP D ac ad kn Ex) (hK : KK D ac (vS C)) {index ci N k : Nat} {ty : FieldType} (hF : FAcc own index ci N k ty false) (j : Nat) {ft : Nat → FK} (hj : kn j = some (.inl (ci, N, ft))) (hft : ft k = .inl 0) {v : Int32} (hn : narrow ty (.int v) = .int v) (hf : fits ty (.int v) = true)
    (d : decode cc pc = .ok (.putfield index, 3)) (kk : VV C nL HP Qf (wset μ j k v, z) (pc + 3) lv st) : VV C nL HP Qf (μ, z) pc lv (.int v :: .ref (ad j) :: st) := by
  refine vv_put0 hC hR hK hF j hj hn hf (μ' := wset μ j k v) (fun q _ => ?_) (wset_o μ j k v) d kk
  by_cases hq : q = k
  · subst hq; simp [updV, fval, hft, wset]
  · simp only [updV, if_neg hq, fval, wset]
    cases ft q with
    | inl n => match n with
      | 0 => simp [hq]
      | 1 => rfl
      | _ + 2 => rfl
    | inr v => rfl
theorem vv_putl (hC : VOk C cc nL own) (hR : RegOk HP D ac ad kn Ex) (hK : KK D ac (vS C)) {index ci N k : Nat} (hF : FAcc own index ci N k .long false) (j : Nat) {ft : Nat → FK} (hj : kn j = some (.inl (ci, N, ft))) (hft : ft k = .inl 1) {v : Int64}
    (d : decode cc pc = .ok (.putfield index, 3)) (kk : VV C nL HP Qf (wsetL μ j k v, z) (pc + 3) lv st) : VV C nL HP Qf (μ, z) pc lv (.long v :: .ref (ad j) :: st) := by
  refine vv_put0 hC hR hK hF j hj rfl rfl (μ' := wsetL μ j k v) (fun q _ => ?_) (wsetL_o μ j k v) d kk
  by_cases hq : q = k
  · subst hq; simp [updV, fval, hft, wsetL]
  · simp only [updV, if_neg hq, fval, wsetL]
    cases ft q with
    | inl n => match n with
      | 0 => rfl
      | 1 => simp [hq]
      | _ + 2 => rfl
    | inr v => rfl
theorem vv_iald (hC : VOk C cc nL own) (hR : RegOk HP D ac ad kn Ex) (hK : KK D ac (vS C)) (j : Nat) {n : Nat} (hj : kn j = some (.inr (0, n))) {i : Int32} (hin : vp_in i n) (d : decode cc pc = .ok (.iaload, 1))
    (kk : VV C nL HP Qf (μ, z) (pc + 1) lv (.int (μ.1 j i.toNatClampNeg) :: st)) : VV C nL HP Qf (μ, z) pc lv (.int i :: .ref (ad j) :: st) := by
  obtain ⟨p, l, e, R, s, m, args, below, meth, c⟩ := C
  intro H locs cells slots ls hH hl
  obtain ⟨hx, hb, hml, hown, hts⟩ := hC
  have hP : H[ad j]? = some (vp_cell (ac 0) (acon ad 0 n (μ.1 j) (μ.2.1 j) (μ.2.2 j))) := hR.2.1 _ _ _ _ _ hH j _ hj
  have hlt : i.toNatClampNeg < n := Nat.not_le.mp fun q => hin (Or.inr q)
  exact W.iald (v := .int (μ.1 j i.toNatClampNeg)) hx hb hP ((hK.1.2 0 _ rfl).1 n (fun q => .int (μ.1 j q))) (fun q => by cases q) (by show ¬ (i < 0 ∨ (arrV _ _ _).slots.size ≤ _); rw [arrV_size]; exact hin) (by show (arrV (ac 0) n (fun q => .int (μ.1 j q))).slots[_]? = _; rw [arrV_read _ _ hlt]) rfl rfl d (kk H locs cells slots ls hH hl)
theorem vv_iast (hC : VOk C cc nL own) (hR : RegOk HP D ac ad kn Ex) (hK : KK D ac (vS C)) (j : Nat) {n : Nat} (hj : kn j = some (.inr (0, n))) {i : Int32} {v : Int32} (hin : vp_in i n) (d : decode cc pc = .ok (.iastore, 1))
    (kk : VV C nL HP Qf (wset μ j i.toNatClampNeg v, z) (pc + 1) lv st) : VV C nL HP Qf (μ, z) pc lv (.int v :: .int i :: .ref (ad j) :: st) := by
  obtain ⟨p, l, e, R, s, m, args, below, meth, c⟩ := C
  intro H locs cells slots ls hH hl
  obtain ⟨hx, hb, hml, hown, hts⟩ := hC
  have hP : H[ad j]? = some (vp_cell (ac 0) (acon ad 0 n (μ.1 j) (μ.2.1 j) (μ.2.2 j))) := hR.2.1 _ _ _ _ _ hH j _ hj
  refine W.iast hx hb hP ((hK.1.2 0 _ rfl).1 n (fun q => .int (μ.1 j q))) (fun q => by cases q) (by show ¬ (i < 0 ∨ (arrV _ _ _).slots.size ≤ _); rw [arrV_size]; exact hin) rfl rfl d fun H1 e1 e2 e3 => ?_
  refine kk H1 _ cells slots ls (reg_one hR hH hj (μ' := wset μ j i.toNatClampNeg v) ?_ e2 e3 (wset_o μ j _ _)) hl
  show H1[ad j]? = some (vp_cell _ _)
  rw [e1]
  show some ((arrV (ac 0) n (fun q => .int (μ.1 j q))).setSlot _ _) = some (arrV (ac 0) n (fun q => .int ((wset μ j i.toNatClampNeg v).1 j q)))
  rw [arrV_store, wset_s]
  congr 2
  funext q
  by_cases hq : q = i.toNatClampNeg
  · subst hq
    simp [updV, upd]
  · simp [updV, upd, hq]
theorem vv_bald (hC : VOk C cc nL own) (hR : RegOk HP D ac ad kn Ex) (hK : KK D ac (vS C)) (j : Nat) {n : Nat} (hj : kn j = some (.inr (1, n))) {i : Int32} (hin : vp_in i n) (d : decode cc pc = .ok (.baload, 1))
    (kk : VV C nL HP Qf (μ, z) (pc + 1) lv (.int (μ.1 j i.toNatClampNeg) :: st)) : VV C nL HP Qf (μ, z) pc lv (.int i :: .ref (ad j) :: st) := by
  obtain ⟨p, l, e, R, s, m, args, below, meth, c⟩ := C
  intro H locs cells slots ls hH hl
  obtain ⟨hx, hb, hml, hown, hts⟩ := hC
  have hP : H[ad j]? = some (vp_cell (ac 1) (acon ad 1 n (μ.1 j) (μ.2.1 j) (μ.2.2 j))) := hR.2.1 _ _ _ _ _ hH j _ hj
  have hlt : i.toNatClampNeg < n := Nat.not_le.mp fun q => hin (Or.inr q)
  exact W.bald (v := .int (μ.1 j i.toNatClampNeg)) hx hb hP ((hK.1.2 1 _ rfl).1 n (fun q => .int (μ.1 j q))) (fun q => by cases q) (by show ¬ (i < 0 ∨ (arrV _ _ _).slots.size ≤ _); rw [arrV_size]; exact hin) (by show (arrV (ac 1) n (fun q => .int (μ.1 j q))).slots[_]? = _; rw [arrV_read _ _ hlt]) rfl rfl d (kk H locs cells slots ls hH hl)
theorem vv_bast (hC : VOk C cc nL own) (hR : RegOk HP D ac ad kn Ex) (hK : KK D ac (vS C)) (j : Nat) {n : Nat} (hj : kn j = some (.inr (1, n))) {i : Int32} {v : Int32} (hin : vp_in i n) (d : decode cc pc = .ok (.bastore, 1))
    (kk : VV C nL HP Qf (wset μ j i.toNatClampNeg (vp_nar .byte v), z) (pc + 1) lv st) : VV C nL HP Qf (μ, z) pc lv (.int v :: .int i :: .ref (ad j) :: st) := by
  obtain ⟨p, l, e, R, s, m, args, below, meth, c⟩ := C
  intro H locs cells slots ls hH hl
  obtain ⟨hx, hb, hml, hown, hts⟩ := hC
  have hP : H[ad j]? = some (vp_cell (ac 1) (acon ad 1 n (μ.1 j) (μ.2.1 j) (μ.2.2 j))) := hR.2.1 _ _ _ _ _ hH j _ hj
  refine W.bast hx hb hP ((hK.1.2 1 _ rfl).1 n (fun q => .int (μ.1 j q))) (fun q => by cases q) (by show ¬ (i < 0 ∨ (arrV _ _ _).slots.size ≤ _); rw [arrV_size]; exact hin) rfl rfl d fun H1 e1 e2 e3 => ?_
  refine kk H1 _ cells slots ls (reg_one hR hH hj (μ' := wset μ j i.toNatClampNeg (vp_nar .byte v)) ?_ e2 e3 (wset_o μ j _ _)) hl
  show H1[ad j]? = some (vp_cell _ _)
  rw [e1]
  show some ((arrV (ac 1) n (fun q => .int (μ.1 j q))).setSlot _ _) = some (arrV (ac 1) n (fun q => .int ((wset μ j i.toNatClampNeg (vp_nar .byte v)).1 j q)))
  rw [arrV_store, wset_s]
  congr 2
  funext q
  by_cases hq : q = i.toNatClampNeg
  · subst hq
    simp [updV, upd, vp_nar, narrow]
  · simp [updV, upd, hq]
theorem vv_zald (hC : VOk C cc nL own) (hR : RegOk HP D ac ad kn Ex) (hK : KK D ac (vS C)) (j : Nat) {n : Nat} (hj : kn j = some (.inr (2, n))) {i : Int32} (hin : vp_in i n) (d : decode cc pc = .ok (.baload, 1))
    (kk : VV C nL HP Qf (μ, z) (pc + 1) lv (.int (μ.1 j i.toNatClampNeg) :: st)) : VV C nL HP Qf (μ, z) pc lv (.int i :: .ref (ad j) :: st) := by
  obtain ⟨p, l, e, R, s, m, args, below, meth, c⟩ := C
  intro H locs cells slots ls hH hl
  obtain ⟨hx, hb, hml, hown, hts⟩ := hC
  have hP : H[ad j]? = some (vp_cell (ac 2) (acon ad 2 n (μ.1 j) (μ.2.1 j) (μ.2.2 j))) := hR.2.1 _ _ _ _ _ hH j _ hj
  have hlt : i.toNatClampNeg < n := Nat.not_le.mp fun q => hin (Or.inr q)
  exact W.zald (v := .int (μ.1 j i.toNatClampNeg)) hx hb hP ((hK.1.2 2 _ rfl).1 n (fun q => .int (μ.1 j q))) (fun q => by cases q) (by show ¬ (i < 0 ∨ (arrV _ _ _).slots.size ≤ _); rw [arrV_size]; exact hin) (by show (arrV (ac 2) n (fun q => .int (μ.1 j q))).slots[_]? = _; rw [arrV_read _ _ hlt]) rfl rfl d (kk H locs cells slots ls hH hl)
theorem vv_zast (hC : VOk C cc nL own) (hR : RegOk HP D ac ad kn Ex) (hK : KK D ac (vS C)) (j : Nat) {n : Nat} (hj : kn j = some (.inr (2, n))) {i : Int32} {v : Int32} (hin : vp_in i n) (d : decode cc pc = .ok (.bastore, 1))
    (kk : VV C nL HP Qf (wset μ j i.toNatClampNeg (vp_nar .boolean v), z) (pc + 1) lv st) : VV C nL HP Qf (μ, z) pc lv (.int v :: .int i :: .ref (ad j) :: st) := by
  obtain ⟨p, l, e, R, s, m, args, below, meth, c⟩ := C
  intro H locs cells slots ls hH hl
  obtain ⟨hx, hb, hml, hown, hts⟩ := hC
  have hP : H[ad j]? = some (vp_cell (ac 2) (acon ad 2 n (μ.1 j) (μ.2.1 j) (μ.2.2 j))) := hR.2.1 _ _ _ _ _ hH j _ hj
  refine W.zast hx hb hP ((hK.1.2 2 _ rfl).1 n (fun q => .int (μ.1 j q))) (fun q => by cases q) (by show ¬ (i < 0 ∨ (arrV _ _ _).slots.size ≤ _); rw [arrV_size]; exact hin) rfl rfl d fun H1 e1 e2 e3 => ?_
  refine kk H1 _ cells slots ls (reg_one hR hH hj (μ' := wset μ j i.toNatClampNeg (vp_nar .boolean v)) ?_ e2 e3 (wset_o μ j _ _)) hl
  show H1[ad j]? = some (vp_cell _ _)
  rw [e1]
  show some ((arrV (ac 2) n (fun q => .int (μ.1 j q))).setSlot _ _) = some (arrV (ac 2) n (fun q => .int ((wset μ j i.toNatClampNeg (vp_nar .boolean v)).1 j q)))
  rw [arrV_store, wset_s]
  congr 2
  funext q
  by_cases hq : q = i.toNatClampNeg
  · subst hq
    simp [updV, upd, vp_nar, narrow]
  · simp [updV, upd, hq]
theorem vv_lald (hC : VOk C cc nL own) (hR : RegOk HP D ac ad kn Ex) (hK : KK D ac (vS C)) (j : Nat) {n : Nat} (hj : kn j = some (.inr (3, n))) {i : Int32} (hin : vp_in i n) (d : decode cc pc = .ok (.laload, 1))
    (kk : VV C nL HP Qf (μ, z) (pc + 1) lv (.long (μ.2.1 j i.toNatClampNeg) :: st)) : VV C nL HP Qf (μ, z) pc lv (.int i :: .ref (ad j) :: st) := by
  obtain ⟨p, l, e, R, s, m, args, below, meth, c⟩ := C
  intro H locs cells slots ls hH hl
  obtain ⟨hx, hb, hml, hown, hts⟩ := hC
  have hP : H[ad j]? = some (vp_cell (ac 3) (acon ad 3 n (μ.1 j) (μ.2.1 j) (μ.2.2 j))) := hR.2.1 _ _ _ _ _ hH j _ hj
  have hlt : i.toNatClampNeg < n := Nat.not_le.mp fun q => hin (Or.inr q)
  exact W.lald (v := .long (μ.2.1 j i.toNatClampNeg)) hx hb hP ((hK.1.2 3 _ rfl).1 n (fun q => .long (μ.2.1 j q))) (fun q => by cases q) (by show ¬ (i < 0 ∨ (arrV _ _ _).slots.size ≤ _); rw [arrV_size]; exact hin) (by show (arrV (ac 3) n (fun q => .long (μ.2.1 j q))).slots[_]? = _; rw [arrV_read _ _ hlt]) rfl rfl d (kk H locs cells slots ls hH hl)
theorem vv_last (hC : VOk C cc nL own) (hR : RegOk HP D ac ad kn Ex) (hK : KK D ac (vS C)) (j : Nat) {n : Nat} (hj : kn j = some (.inr (3, n))) {i : Int32} {v : Int64} (hin : vp_in i n) (d : decode cc pc = .ok (.lastore, 1))
    (kk : VV C nL HP Qf (wsetL μ j i.toNatClampNeg v, z) (pc + 1) lv st) : VV C nL HP Qf (μ, z) pc lv (.long v :: .int i :: .ref (ad j) :: st) := by
  obtain ⟨p, l, e, R, s, m, args, below, meth, c⟩ := C
  intro H locs cells slots ls hH hl
  obtain ⟨hx, hb, hml, hown, hts⟩ := hC
  have hP : H[ad j]? = some (vp_cell (ac 3) (acon ad 3 n (μ.1 j) (μ.2.1 j) (μ.2.2 j))) := hR.2.1 _ _ _ _ _ hH j _ hj
  refine W.last hx hb hP ((hK.1.2 3 _ rfl).1 n (fun q => .long (μ.2.1 j q))) (fun q => by cases q) (by show ¬ (i < 0 ∨ (arrV _ _ _).slots.size ≤ _); rw [arrV_size]; exact hin) rfl rfl d fun H1 e1 e2 e3 => ?_
  refine kk H1 _ cells slots ls (reg_one hR hH hj (μ' := wsetL μ j i.toNatClampNeg v) ?_ e2 e3 (wsetL_o μ j _ _)) hl
  show H1[ad j]? = some (vp_cell _ _)
  rw [e1]
  show some ((arrV (ac 3) n (fun q => .long (μ.2.1 j q))).setSlot _ _) = some (arrV (ac 3) n (fun q => .long ((wsetL μ j i.toNatClampNeg v).2.1 j q)))
  rw [arrV_store, wsetL_s]
  congr 2
  funext q
  by_cases hq : q = i.toNatClampNeg
  · subst hq
    simp [updV, vp_updL]
  · simp [updV, vp_updL, hq]
end Reg
