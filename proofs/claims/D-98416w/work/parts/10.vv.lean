/-! VV: the machine's judgement W with heap, locs, cells, slots, locals array hidden behind an abstract state x (HP x H locs cells slots) -/
set_option maxRecDepth 10000
abbrev VCx : Type := Program × Launch × Env × Room × State × MethodId × Array Value × List Frame × Method × Code
def VV {σ : Type} (C : VCx) (nL : Nat) (HP : σ → Heap → List Loc → Nat → Nat → Prop) (Qf : State → Prop) (x : σ) (pc : Nat) (lv : List (Nat × Value)) (st : List Value) : Prop :=
  match C with
  | (p, l, e, R, s, m, args, below, meth, c) => ∀ (H : Heap) (locs : List Loc) (cells slots : Nat) (ls : Array Slot), HP x H locs cells slots → lv_has ls nL lv → W p l e R s m args below meth c H locs cells slots Qf (F0 m pc ls st)
def VOk (C : VCx) (cc : ByteArray) (nL : Nat) (own : String) : Prop :=
  match C with
  | (p, l, e, R, s, m, args, below, meth, c) => CallFix p m c cc nL s args lw_all own
def vS (C : VCx) : State := C.2.2.2.2.1
def vR (C : VCx) : Room := C.2.2.2.1
def vA (C : VCx) : Array Value := C.2.2.2.2.2.2.1
section VVrows
variable {σ : Type} {C : VCx} {nL : Nat} {HP : σ → Heap → List Loc → Nat → Nat → Prop} {Qf : State → Prop} {x : σ} {pc : Nat} {lv : List (Nat × Value)} {st : List Value} {cc : ByteArray} {own : String}
theorem vv_word (hC : VOk C cc nL own) {w : Cond} (h : w ∈ lw_all) : w.before (vA C) (vS C) = true := by
  obtain ⟨p, l, e, R, s, m, args, below, meth, c⟩ := C
  exact hC.2.2.2.2 w h
theorem vv_eq {st st' : List Value} (h : st = st') (k : VV C nL HP Qf x pc lv st') : VV C nL HP Qf x pc lv st := h ▸ k
theorem vv_lv {lv lv' : List (Nat × Value)} (ks : List Nat) (h : lv_pick lv ks = lv') (k : VV C nL HP Qf x pc lv' st) : VV C nL HP Qf x pc lv st := by
  obtain ⟨p, l, e, R, s, m, args, below, meth, c⟩ := C
  intro H locs cells slots ls hH hl
  exact k H locs cells slots ls hH (lv_sub hl ks h)
theorem vv_topi {a : Int32} (k : ∀ y : Int32, y = a → VV C nL HP Qf x pc lv (.int y :: st)) : VV C nL HP Qf x pc lv (.int a :: st) := k a rfl
theorem vv_topl {a : Int64} (k : ∀ y : Int64, y = a → VV C nL HP Qf x pc lv (.long y :: st)) : VV C nL HP Qf x pc lv (.long a :: st) := k a rfl
theorem vv_st {x' : σ} (k : ∀ y : σ, y = x' → VV C nL HP Qf y pc lv st) : VV C nL HP Qf x' pc lv st := k x' rfl

theorem vv_iconst (hC : VOk C cc nL own) {n : Int} {v : Int32} (d : decode cc pc = .ok (.iconst n, 1)) (hv : Int32.ofInt n = v) (k : VV C nL HP Qf x (pc + 1) lv (.int v :: st)) : VV C nL HP Qf x pc lv (st) := by
  obtain ⟨p, l, e, R, s, m, args, below, meth, c⟩ := C
  intro H locs cells slots ls hH hl
  exact lv_iconst hC.1 hC.2.1 d hv (k H locs cells slots ls hH hl)
theorem vv_bipush (hC : VOk C cc nL own) {n : Int} {v : Int32} (d : decode cc pc = .ok (.bipush n, 2)) (hv : (Int8.ofInt n).toInt32 = v) (k : VV C nL HP Qf x (pc + 2) lv (.int v :: st)) : VV C nL HP Qf x pc lv (st) := by
  obtain ⟨p, l, e, R, s, m, args, below, meth, c⟩ := C
  intro H locs cells slots ls hH hl
  exact lv_bipush hC.1 hC.2.1 d hv (k H locs cells slots ls hH hl)
theorem vv_sipush (hC : VOk C cc nL own) {n : Int} {v : Int32} (d : decode cc pc = .ok (.sipush n, 3)) (hv : (Int16.ofInt n).toInt32 = v) (k : VV C nL HP Qf x (pc + 3) lv (.int v :: st)) : VV C nL HP Qf x pc lv (st) := by
  obtain ⟨p, l, e, R, s, m, args, below, meth, c⟩ := C
  intro H locs cells slots ls hH hl
  exact lv_sipush hC.1 hC.2.1 d hv (k H locs cells slots ls hH hl)
theorem vv_lconst (hC : VOk C cc nL own) {n : Fin 2} {v : Int64} (d : decode cc pc = .ok (.lconst n, 1)) (hv : Int64.ofNat (n : Nat) = v) (k : VV C nL HP Qf x (pc + 1) lv (.long v :: st)) : VV C nL HP Qf x pc lv (st) := by
  obtain ⟨p, l, e, R, s, m, args, below, meth, c⟩ := C
  intro H locs cells slots ls hH hl
  exact lv_lconst hC.1 hC.2.1 d hv (k H locs cells slots ls hH hl)
theorem vv_iload_n (hC : VOk C cc nL own) {j : Fin 4} {i : Nat} {a : Int32} (d : decode cc pc = .ok (.iload_n j, 1)) (hi : (j : Nat) = i) (pl : Nat) (hp : lv[pl]? = some (i, .int a)) (k : VV C nL HP Qf x (pc + 1) lv (.int a :: st)) : VV C nL HP Qf x pc lv (st) := by
  obtain ⟨p, l, e, R, s, m, args, below, meth, c⟩ := C
  intro H locs cells slots ls hH hl
  exact lv_iload_n hC.1 hC.2.1 d hi (lv_at hl pl hp) (k H locs cells slots ls hH hl)
theorem vv_iload (hC : VOk C cc nL own) {i : Nat} {a : Int32} (d : decode cc pc = .ok (.iload i, 2)) (pl : Nat) (hp : lv[pl]? = some (i, .int a)) (k : VV C nL HP Qf x (pc + 2) lv (.int a :: st)) : VV C nL HP Qf x pc lv (st) := by
  obtain ⟨p, l, e, R, s, m, args, below, meth, c⟩ := C
  intro H locs cells slots ls hH hl
  exact lv_iload hC.1 hC.2.1 d (lv_at hl pl hp) (k H locs cells slots ls hH hl)
theorem vv_lload_n (hC : VOk C cc nL own) {j : Fin 4} {i : Nat} {a : Int64} (d : decode cc pc = .ok (.lload_n j, 1)) (hi : (j : Nat) = i) (pl : Nat) (hp : lv[pl]? = some (i, .long a)) (k : VV C nL HP Qf x (pc + 1) lv (.long a :: st)) : VV C nL HP Qf x pc lv (st) := by
  obtain ⟨p, l, e, R, s, m, args, below, meth, c⟩ := C
  intro H locs cells slots ls hH hl
  exact lv_lload_n hC.1 hC.2.1 d hi (lv_at hl pl hp) (k H locs cells slots ls hH hl)
theorem vv_lload (hC : VOk C cc nL own) {i : Nat} {a : Int64} (d : decode cc pc = .ok (.lload i, 2)) (pl : Nat) (hp : lv[pl]? = some (i, .long a)) (k : VV C nL HP Qf x (pc + 2) lv (.long a :: st)) : VV C nL HP Qf x pc lv (st) := by
  obtain ⟨p, l, e, R, s, m, args, below, meth, c⟩ := C
  intro H locs cells slots ls hH hl
  exact lv_lload hC.1 hC.2.1 d (lv_at hl pl hp) (k H locs cells slots ls hH hl)
theorem vv_aload_n (hC : VOk C cc nL own) {j : Fin 4} {i : Nat} {a : Nat} (d : decode cc pc = .ok (.aload_n j, 1)) (hi : (j : Nat) = i) (pl : Nat) (hp : lv[pl]? = some (i, .ref a)) (k : VV C nL HP Qf x (pc + 1) lv (.ref a :: st)) : VV C nL HP Qf x pc lv (st) := by
  obtain ⟨p, l, e, R, s, m, args, below, meth, c⟩ := C
  intro H locs cells slots ls hH hl
  exact lv_aload_n hC.1 hC.2.1 d hi (lv_at hl pl hp) (k H locs cells slots ls hH hl)
theorem vv_aload (hC : VOk C cc nL own) {i : Nat} {a : Nat} (d : decode cc pc = .ok (.aload i, 2)) (pl : Nat) (hp : lv[pl]? = some (i, .ref a)) (k : VV C nL HP Qf x (pc + 2) lv (.ref a :: st)) : VV C nL HP Qf x pc lv (st) := by
  obtain ⟨p, l, e, R, s, m, args, below, meth, c⟩ := C
  intro H locs cells slots ls hH hl
  exact lv_aload hC.1 hC.2.1 d (lv_at hl pl hp) (k H locs cells slots ls hH hl)
theorem vv_aload_nN (hC : VOk C cc nL own) {j : Fin 4} {i : Nat} (d : decode cc pc = .ok (.aload_n j, 1)) (hi : (j : Nat) = i) (pl : Nat) (hp : lv[pl]? = some (i, .null)) (k : VV C nL HP Qf x (pc + 1) lv (.null :: st)) : VV C nL HP Qf x pc lv (st) := by
  obtain ⟨p, l, e, R, s, m, args, below, meth, c⟩ := C
  intro H locs cells slots ls hH hl
  exact lv_aload_nN hC.1 hC.2.1 d hi (lv_at hl pl hp) (k H locs cells slots ls hH hl)
theorem vv_istore_n (hC : VOk C cc nL own) {j : Fin 4} {i : Nat} {a : Int32} {lv' : List (Nat × Value)} (d : decode cc pc = .ok (.istore_n j, 1)) (hi : (j : Nat) = i) (hn : i < nL) (hl' : (i, Value.int a) :: lv.filter (fun q : Nat × Value => !(q.1 == i) && !(q.1 + 1 == i && q.2.category == 2)) = lv') (k : VV C nL HP Qf x (pc + 1) lv' st) : VV C nL HP Qf x pc lv (Value.int a :: st) := by
  obtain ⟨p, l, e, R, s, m, args, below, meth, c⟩ := C
  intro H locs cells slots ls hH hl
  exact lv_istore_n hC.1 hC.2.1 d hi hl hn hl' (fun ls' h' => k H locs cells slots ls' hH h')
theorem vv_istore (hC : VOk C cc nL own) {i : Nat} {a : Int32} {lv' : List (Nat × Value)} (d : decode cc pc = .ok (.istore i, 2)) (hn : i < nL) (hl' : (i, Value.int a) :: lv.filter (fun q : Nat × Value => !(q.1 == i) && !(q.1 + 1 == i && q.2.category == 2)) = lv') (k : VV C nL HP Qf x (pc + 2) lv' st) : VV C nL HP Qf x pc lv (Value.int a :: st) := by
  obtain ⟨p, l, e, R, s, m, args, below, meth, c⟩ := C
  intro H locs cells slots ls hH hl
  exact lv_istore hC.1 hC.2.1 d hl hn hl' (fun ls' h' => k H locs cells slots ls' hH h')
theorem vv_lstore_n (hC : VOk C cc nL own) {j : Fin 4} {i : Nat} {a : Int64} {lv' : List (Nat × Value)} (d : decode cc pc = .ok (.lstore_n j, 1)) (hi : (j : Nat) = i) (hn : i + 1 < nL) (hl' : (i, Value.long a) :: lv.filter (fun q : Nat × Value => !(q.1 == i) && (!(q.1 == i + 1) && !(q.1 + 1 == i && q.2.category == 2))) = lv') (k : VV C nL HP Qf x (pc + 1) lv' st) : VV C nL HP Qf x pc lv (Value.long a :: st) := by
  obtain ⟨p, l, e, R, s, m, args, below, meth, c⟩ := C
  intro H locs cells slots ls hH hl
  exact lv_lstore_n hC.1 hC.2.1 d hi hl hn hl' (fun ls' h' => k H locs cells slots ls' hH h')
theorem vv_lstore (hC : VOk C cc nL own) {i : Nat} {a : Int64} {lv' : List (Nat × Value)} (d : decode cc pc = .ok (.lstore i, 2)) (hn : i + 1 < nL) (hl' : (i, Value.long a) :: lv.filter (fun q : Nat × Value => !(q.1 == i) && (!(q.1 == i + 1) && !(q.1 + 1 == i && q.2.category == 2))) = lv') (k : VV C nL HP Qf x (pc + 2) lv' st) : VV C nL HP Qf x pc lv (Value.long a :: st) := by
  obtain ⟨p, l, e, R, s, m, args, below, meth, c⟩ := C
  intro H locs cells slots ls hH hl
  exact lv_lstore hC.1 hC.2.1 d hl hn hl' (fun ls' h' => k H locs cells slots ls' hH h')
theorem vv_astore_n (hC : VOk C cc nL own) {j : Fin 4} {i : Nat} {a : Nat} {lv' : List (Nat × Value)} (d : decode cc pc = .ok (.astore_n j, 1)) (hi : (j : Nat) = i) (hn : i < nL) (hl' : (i, Value.ref a) :: lv.filter (fun q : Nat × Value => !(q.1 == i) && !(q.1 + 1 == i && q.2.category == 2)) = lv') (k : VV C nL HP Qf x (pc + 1) lv' st) : VV C nL HP Qf x pc lv (Value.ref a :: st) := by
  obtain ⟨p, l, e, R, s, m, args, below, meth, c⟩ := C
  intro H locs cells slots ls hH hl
  exact lv_astore_n hC.1 hC.2.1 d hi hl hn hl' (fun ls' h' => k H locs cells slots ls' hH h')
theorem vv_astore (hC : VOk C cc nL own) {i : Nat} {a : Nat} {lv' : List (Nat × Value)} (d : decode cc pc = .ok (.astore i, 2)) (hn : i < nL) (hl' : (i, Value.ref a) :: lv.filter (fun q : Nat × Value => !(q.1 == i) && !(q.1 + 1 == i && q.2.category == 2)) = lv') (k : VV C nL HP Qf x (pc + 2) lv' st) : VV C nL HP Qf x pc lv (Value.ref a :: st) := by
  obtain ⟨p, l, e, R, s, m, args, below, meth, c⟩ := C
  intro H locs cells slots ls hH hl
  exact lv_astore hC.1 hC.2.1 d hl hn hl' (fun ls' h' => k H locs cells slots ls' hH h')
theorem vv_iinc (hC : VOk C cc nL own) {i pl : Nat} {n : Int} {a v : Int32} {lv' : List (Nat × Value)} (d : decode cc pc = .ok (.iinc i n, 3)) (hp : lv[pl]? = some (i, .int a)) (hv : a + Int32.ofInt n = v) (hn : i < nL) (hl' : (i, Value.int v) :: lv.filter (fun q : Nat × Value => !(q.1 == i) && !(q.1 + 1 == i && q.2.category == 2)) = lv') (k : VV C nL HP Qf x (pc + 3) lv' st) : VV C nL HP Qf x pc lv st := by
  obtain ⟨p, l, e, R, s, m, args, below, meth, c⟩ := C
  intro H locs cells slots ls hH hl
  exact lv_iinc hC.1 hC.2.1 d hl hp hv hn hl' (fun ls' h' => k H locs cells slots ls' hH h')
theorem vv_iadd (hC : VOk C cc nL own) {a b : Int32} (d : decode cc pc = .ok (.iadd, 1)) (k : VV C nL HP Qf x (pc + 1) lv (.int (a + b) :: st)) : VV C nL HP Qf x pc lv (.int b :: .int a :: st) := by
  obtain ⟨p, l, e, R, s, m, args, below, meth, c⟩ := C
  intro H locs cells slots ls hH hl
  exact lv_iadd hC.1 hC.2.1 d (k H locs cells slots ls hH hl)
theorem vv_isub (hC : VOk C cc nL own) {a b : Int32} (d : decode cc pc = .ok (.isub, 1)) (k : VV C nL HP Qf x (pc + 1) lv (.int (a - b) :: st)) : VV C nL HP Qf x pc lv (.int b :: .int a :: st) := by
  obtain ⟨p, l, e, R, s, m, args, below, meth, c⟩ := C
  intro H locs cells slots ls hH hl
  exact lv_isub hC.1 hC.2.1 d (k H locs cells slots ls hH hl)
theorem vv_imul (hC : VOk C cc nL own) {a b : Int32} (d : decode cc pc = .ok (.imul, 1)) (k : VV C nL HP Qf x (pc + 1) lv (.int (a * b) :: st)) : VV C nL HP Qf x pc lv (.int b :: .int a :: st) := by
  obtain ⟨p, l, e, R, s, m, args, below, meth, c⟩ := C
  intro H locs cells slots ls hH hl
  exact lv_imul hC.1 hC.2.1 d (k H locs cells slots ls hH hl)
theorem vv_iand (hC : VOk C cc nL own) {a b : Int32} (d : decode cc pc = .ok (.iand, 1)) (k : VV C nL HP Qf x (pc + 1) lv (.int (a &&& b) :: st)) : VV C nL HP Qf x pc lv (.int b :: .int a :: st) := by
  obtain ⟨p, l, e, R, s, m, args, below, meth, c⟩ := C
  intro H locs cells slots ls hH hl
  exact lv_iand hC.1 hC.2.1 d (k H locs cells slots ls hH hl)
theorem vv_ior (hC : VOk C cc nL own) {a b : Int32} (d : decode cc pc = .ok (.ior, 1)) (k : VV C nL HP Qf x (pc + 1) lv (.int (a ||| b) :: st)) : VV C nL HP Qf x pc lv (.int b :: .int a :: st) := by
  obtain ⟨p, l, e, R, s, m, args, below, meth, c⟩ := C
  intro H locs cells slots ls hH hl
  exact lv_ior hC.1 hC.2.1 d (k H locs cells slots ls hH hl)
theorem vv_ixor (hC : VOk C cc nL own) {a b : Int32} (d : decode cc pc = .ok (.ixor, 1)) (k : VV C nL HP Qf x (pc + 1) lv (.int (a ^^^ b) :: st)) : VV C nL HP Qf x pc lv (.int b :: .int a :: st) := by
  obtain ⟨p, l, e, R, s, m, args, below, meth, c⟩ := C
  intro H locs cells slots ls hH hl
  exact lv_ixor hC.1 hC.2.1 d (k H locs cells slots ls hH hl)
theorem vv_ishl (hC : VOk C cc nL own) {a b : Int32} (d : decode cc pc = .ok (.ishl, 1)) (k : VV C nL HP Qf x (pc + 1) lv (.int (a <<< (b &&& 31)) :: st)) : VV C nL HP Qf x pc lv (.int b :: .int a :: st) := by
  obtain ⟨p, l, e, R, s, m, args, below, meth, c⟩ := C
  intro H locs cells slots ls hH hl
  exact lv_ishl hC.1 hC.2.1 d (k H locs cells slots ls hH hl)
theorem vv_ishr (hC : VOk C cc nL own) {a b : Int32} (d : decode cc pc = .ok (.ishr, 1)) (k : VV C nL HP Qf x (pc + 1) lv (.int (a >>> (b &&& 31)) :: st)) : VV C nL HP Qf x pc lv (.int b :: .int a :: st) := by
  obtain ⟨p, l, e, R, s, m, args, below, meth, c⟩ := C
  intro H locs cells slots ls hH hl
  exact lv_ishr hC.1 hC.2.1 d (k H locs cells slots ls hH hl)
theorem vv_idiv (hC : VOk C cc nL own) {a b : Int32} (d : decode cc pc = .ok (.idiv, 1)) (hne : ¬ b = 0) (k : VV C nL HP Qf x (pc + 1) lv (.int (a / b) :: st)) : VV C nL HP Qf x pc lv (.int b :: .int a :: st) := by
  obtain ⟨p, l, e, R, s, m, args, below, meth, c⟩ := C
  intro H locs cells slots ls hH hl
  exact lv_idiv hC.1 hC.2.1 d hne (k H locs cells slots ls hH hl)
theorem vv_irem (hC : VOk C cc nL own) {a b : Int32} (d : decode cc pc = .ok (.irem, 1)) (hne : ¬ b = 0) (k : VV C nL HP Qf x (pc + 1) lv (.int (a - a / b * b) :: st)) : VV C nL HP Qf x pc lv (.int b :: .int a :: st) := by
  obtain ⟨p, l, e, R, s, m, args, below, meth, c⟩ := C
  intro H locs cells slots ls hH hl
  exact lv_irem hC.1 hC.2.1 d hne (k H locs cells slots ls hH hl)
theorem vv_lor (hC : VOk C cc nL own) {a b : Int64} (d : decode cc pc = .ok (.lor, 1)) (k : VV C nL HP Qf x (pc + 1) lv (.long (a ||| b) :: st)) : VV C nL HP Qf x pc lv (.long b :: .long a :: st) := by
  obtain ⟨p, l, e, R, s, m, args, below, meth, c⟩ := C
  intro H locs cells slots ls hH hl
  exact lv_lor hC.1 hC.2.1 d (k H locs cells slots ls hH hl)
theorem vv_iushr (hC : VOk C cc nL own) {a b : Int32} (d : decode cc pc = .ok (.iushr, 1)) (k : VV C nL HP Qf x (pc + 1) lv (.int ((a.toUInt32 >>> (b.toUInt32 &&& Int32.toUInt32 31)).toInt32) :: st)) : VV C nL HP Qf x pc lv (.int b :: .int a :: st) := by
  obtain ⟨p, l, e, R, s, m, args, below, meth, c⟩ := C
  intro H locs cells slots ls hH hl
  exact lv_iushr hC.1 hC.2.1 d rfl (k H locs cells slots ls hH hl)
theorem vv_ineg (hC : VOk C cc nL own) {a : Int32} (d : decode cc pc = .ok (.ineg, 1)) (k : VV C nL HP Qf x (pc + 1) lv (.int (-a) :: st)) : VV C nL HP Qf x pc lv (.int a :: st) := by
  obtain ⟨p, l, e, R, s, m, args, below, meth, c⟩ := C
  intro H locs cells slots ls hH hl
  exact lv_ineg hC.1 hC.2.1 d (k H locs cells slots ls hH hl)
theorem vv_lshl (hC : VOk C cc nL own) {a : Int64} {b : Int32} (d : decode cc pc = .ok (.lshl, 1)) (k : VV C nL HP Qf x (pc + 1) lv (.long (a <<< (b.toInt64 &&& 63)) :: st)) : VV C nL HP Qf x pc lv (.int b :: .long a :: st) := by
  obtain ⟨p, l, e, R, s, m, args, below, meth, c⟩ := C
  intro H locs cells slots ls hH hl
  exact lv_lshl hC.1 hC.2.1 d rfl (k H locs cells slots ls hH hl)
theorem vv_i2l (hC : VOk C cc nL own) {a : Int32} (d : decode cc pc = .ok (.i2l, 1)) (k : VV C nL HP Qf x (pc + 1) lv (.long a.toInt64 :: st)) : VV C nL HP Qf x pc lv (.int a :: st) := by
  obtain ⟨p, l, e, R, s, m, args, below, meth, c⟩ := C
  intro H locs cells slots ls hH hl
  exact lv_i2l hC.1 hC.2.1 d rfl (k H locs cells slots ls hH hl)
theorem vv_i2b (hC : VOk C cc nL own) {a : Int32} (d : decode cc pc = .ok (.i2b, 1)) (k : VV C nL HP Qf x (pc + 1) lv (.int a.toInt8.toInt32 :: st)) : VV C nL HP Qf x pc lv (.int a :: st) := by
  obtain ⟨p, l, e, R, s, m, args, below, meth, c⟩ := C
  intro H locs cells slots ls hH hl
  exact lv_i2b hC.1 hC.2.1 d rfl (k H locs cells slots ls hH hl)
theorem vv_i2c (hC : VOk C cc nL own) {a : Int32} (d : decode cc pc = .ok (.i2c, 1)) (k : VV C nL HP Qf x (pc + 1) lv (.int (a.toUInt32 % 65536).toInt32 :: st)) : VV C nL HP Qf x pc lv (.int a :: st) := by
  obtain ⟨p, l, e, R, s, m, args, below, meth, c⟩ := C
  intro H locs cells slots ls hH hl
  exact lv_i2c hC.1 hC.2.1 d rfl (k H locs cells slots ls hH hl)
theorem vv_lcmp (hC : VOk C cc nL own) {a b : Int64} (d : decode cc pc = .ok (.lcmp, 1)) (k : VV C nL HP Qf x (pc + 1) lv (.int (lg_cmp a b) :: st)) : VV C nL HP Qf x pc lv (.long b :: .long a :: st) := by
  obtain ⟨p, l, e, R, s, m, args, below, meth, c⟩ := C
  intro H locs cells slots ls hH hl
  exact W.lcmp hC.1 hC.2.1 d (k H locs cells slots ls hH hl)
theorem vv_dup (hC : VOk C cc nL own) {v : Value} (d : decode cc pc = .ok (.dup, 1)) (hv : v.category = 1) (k : VV C nL HP Qf x (pc + 1) lv (v :: v :: st)) : VV C nL HP Qf x pc lv (v :: st) := by
  obtain ⟨p, l, e, R, s, m, args, below, meth, c⟩ := C
  intro H locs cells slots ls hH hl
  exact lv_dup hC.1 hC.2.1 d hv (k H locs cells slots ls hH hl)
theorem vv_pop (hC : VOk C cc nL own) {v : Value} (d : decode cc pc = .ok (.pop, 1)) (hv : v.category = 1) (k : VV C nL HP Qf x (pc + 1) lv (st)) : VV C nL HP Qf x pc lv (v :: st) := by
  obtain ⟨p, l, e, R, s, m, args, below, meth, c⟩ := C
  intro H locs cells slots ls hH hl
  exact lv_pop hC.1 hC.2.1 d hv (k H locs cells slots ls hH hl)
theorem vv_dup_x1 (hC : VOk C cc nL own) {v w : Value} (d : decode cc pc = .ok (.dup_x1, 1)) (hv : v.category = 1) (hw : w.category = 1) (k : VV C nL HP Qf x (pc + 1) lv (v :: w :: v :: st)) : VV C nL HP Qf x pc lv (v :: w :: st) := by
  obtain ⟨p, l, e, R, s, m, args, below, meth, c⟩ := C
  intro H locs cells slots ls hH hl
  exact lv_dup_x1 hC.1 hC.2.1 d hv hw (k H locs cells slots ls hH hl)
theorem vv_dup2 (hC : VOk C cc nL own) {v w : Value} (d : decode cc pc = .ok (.dup2, 1)) (hv : v.category = 1) (hw : w.category = 1) (k : VV C nL HP Qf x (pc + 1) lv (v :: w :: v :: w :: st)) : VV C nL HP Qf x pc lv (v :: w :: st) := by
  obtain ⟨p, l, e, R, s, m, args, below, meth, c⟩ := C
  intro H locs cells slots ls hH hl
  exact lv_dup2_11 hC.1 hC.2.1 d hv hw (k H locs cells slots ls hH hl)
theorem vv_ldc (hC : VOk C cc nL own) {index : Nat} {v : Int32} (hw : Cond.constant own index v ∈ lw_all) (d : decode cc pc = .ok (.ldc index, 2)) (k : VV C nL HP Qf x (pc + 2) lv (.int v :: st)) : VV C nL HP Qf x pc lv (st) := by
  obtain ⟨p, l, e, R, s, m, args, below, meth, c⟩ := C
  intro H locs cells slots ls hH hl
  exact lv_ldc hC.1 hC.2.1 hC.2.2.2.1 (hC.2.2.2.2 _ hw) d (k H locs cells slots ls hH hl)
theorem vv_ldcw (hC : VOk C cc nL own) {index : Nat} {v : Int32} (hw : Cond.constant own index v ∈ lw_all) (d : decode cc pc = .ok (.ldc_w index, 3)) (k : VV C nL HP Qf x (pc + 3) lv (.int v :: st)) : VV C nL HP Qf x pc lv (st) := by
  obtain ⟨p, l, e, R, s, m, args, below, meth, c⟩ := C
  intro H locs cells slots ls hH hl
  exact lv_ldcw hC.1 hC.2.1 hC.2.2.2.1 (hC.2.2.2.2 _ hw) d (k H locs cells slots ls hH hl)
theorem vv_ldc2 (hC : VOk C cc nL own) {index : Nat} {v : Int64} (hw : Cond.constantLong own index v ∈ lw_all) (d : decode cc pc = .ok (.ldc2_w index, 3)) (k : VV C nL HP Qf x (pc + 3) lv (.long v :: st)) : VV C nL HP Qf x pc lv (st) := by
  obtain ⟨p, l, e, R, s, m, args, below, meth, c⟩ := C
  intro H locs cells slots ls hH hl
  exact lv_ldc2 hC.1 hC.2.1 hC.2.2.2.1 (hC.2.2.2.2 _ hw) d (k H locs cells slots ls hH hl)
theorem vv_null (hC : VOk C cc nL own)  (d : decode cc pc = .ok (.aconst_null, 1)) (k : VV C nL HP Qf x (pc + 1) lv (.null :: st)) : VV C nL HP Qf x pc lv (st) := by
  obtain ⟨p, l, e, R, s, m, args, below, meth, c⟩ := C
  intro H locs cells slots ls hH hl
  exact lv_null hC.1 hC.2.1 d (k H locs cells slots ls hH hl)
theorem vv_ifnull (hC : VOk C cc nL own) {a : Nat} {off : Int} (d : decode cc pc = .ok (.ifnull off, 3)) (k : VV C nL HP Qf x (pc + 3) lv (st)) : VV C nL HP Qf x pc lv (.ref a :: st) := by
  obtain ⟨p, l, e, R, s, m, args, below, meth, c⟩ := C
  intro H locs cells slots ls hH hl
  exact lv_ifnull hC.1 hC.2.1 d (k H locs cells slots ls hH hl)
theorem vv_ifnonnull (hC : VOk C cc nL own) {a : Nat} {off : Int} {tgt : Nat} (d : decode cc pc = .ok (.ifnonnull off, 3)) (ht : (pc : Int) + off = (tgt : Int)) (k : VV C nL HP Qf x (tgt) lv (st)) : VV C nL HP Qf x pc lv (.ref a :: st) := by
  obtain ⟨p, l, e, R, s, m, args, below, meth, c⟩ := C
  intro H locs cells slots ls hH hl
  exact lv_ifnonnull hC.1 hC.2.1 d ht (k H locs cells slots ls hH hl)
theorem vv_goto (hC : VOk C cc nL own) {off : Int} {tgt : Nat} (d : decode cc pc = .ok (.goto off, 3)) (ht : (pc : Int) + off = (tgt : Int)) (k : VV C nL HP Qf x tgt lv st) : VV C nL HP Qf x pc lv st := by
  obtain ⟨p, l, e, R, s, m, args, below, meth, c⟩ := C
  intro H locs cells slots ls hH hl
  exact lv_goto hC.1 hC.2.1 d ht (k H locs cells slots ls hH hl)
theorem vv_if_eq (hC : VOk C cc nL own) {a : Int32} {off : Int} {tgt : Nat} (d : decode cc pc = .ok (.ifCond .eq off, 3)) (ht : (pc : Int) + off = (tgt : Int)) (kt : a = 0 → VV C nL HP Qf x tgt lv st) (kf : ¬ a = 0 → VV C nL HP Qf x (pc + 3) lv st) : VV C nL HP Qf x pc lv (.int a :: st) := by
  obtain ⟨p, l, e, R, s, m, args, below, meth, c⟩ := C
  intro H locs cells slots ls hH hl
  exact lv_if_eq hC.1 hC.2.1 d ht (fun q => kt q H locs cells slots ls hH hl) (fun q => kf q H locs cells slots ls hH hl)
theorem vv_icmp_eq (hC : VOk C cc nL own) {a b : Int32} {off : Int} {tgt : Nat} (d : decode cc pc = .ok (.if_icmp .eq off, 3)) (ht : (pc : Int) + off = (tgt : Int)) (kt : a = b → VV C nL HP Qf x tgt lv st) (kf : ¬ a = b → VV C nL HP Qf x (pc + 3) lv st) : VV C nL HP Qf x pc lv (.int b :: .int a :: st) := by
  obtain ⟨p, l, e, R, s, m, args, below, meth, c⟩ := C
  intro H locs cells slots ls hH hl
  exact lv_icmp_eq hC.1 hC.2.1 d ht (fun q => kt q H locs cells slots ls hH hl) (fun q => kf q H locs cells slots ls hH hl)
theorem vv_if_ne (hC : VOk C cc nL own) {a : Int32} {off : Int} {tgt : Nat} (d : decode cc pc = .ok (.ifCond .ne off, 3)) (ht : (pc : Int) + off = (tgt : Int)) (kt : ¬ a = 0 → VV C nL HP Qf x tgt lv st) (kf : a = 0 → VV C nL HP Qf x (pc + 3) lv st) : VV C nL HP Qf x pc lv (.int a :: st) := by
  obtain ⟨p, l, e, R, s, m, args, below, meth, c⟩ := C
  intro H locs cells slots ls hH hl
  exact lv_if_ne hC.1 hC.2.1 d ht (fun q => kt q H locs cells slots ls hH hl) (fun q => kf q H locs cells slots ls hH hl)
theorem vv_icmp_ne (hC : VOk C cc nL own) {a b : Int32} {off : Int} {tgt : Nat} (d : decode cc pc = .ok (.if_icmp .ne off, 3)) (ht : (pc : Int) + off = (tgt : Int)) (kt : ¬ a = b → VV C nL HP Qf x tgt lv st) (kf : a = b → VV C nL HP Qf x (pc + 3) lv st) : VV C nL HP Qf x pc lv (.int b :: .int a :: st) := by
  obtain ⟨p, l, e, R, s, m, args, below, meth, c⟩ := C
  intro H locs cells slots ls hH hl
  exact lv_icmp_ne hC.1 hC.2.1 d ht (fun q => kt q H locs cells slots ls hH hl) (fun q => kf q H locs cells slots ls hH hl)
theorem vv_if_lt (hC : VOk C cc nL own) {a : Int32} {off : Int} {tgt : Nat} (d : decode cc pc = .ok (.ifCond .lt off, 3)) (ht : (pc : Int) + off = (tgt : Int)) (kt : a < 0 → VV C nL HP Qf x tgt lv st) (kf : ¬ a < 0 → VV C nL HP Qf x (pc + 3) lv st) : VV C nL HP Qf x pc lv (.int a :: st) := by
  obtain ⟨p, l, e, R, s, m, args, below, meth, c⟩ := C
  intro H locs cells slots ls hH hl
  exact lv_if_lt hC.1 hC.2.1 d ht (fun q => kt q H locs cells slots ls hH hl) (fun q => kf q H locs cells slots ls hH hl)
theorem vv_icmp_lt (hC : VOk C cc nL own) {a b : Int32} {off : Int} {tgt : Nat} (d : decode cc pc = .ok (.if_icmp .lt off, 3)) (ht : (pc : Int) + off = (tgt : Int)) (kt : a < b → VV C nL HP Qf x tgt lv st) (kf : ¬ a < b → VV C nL HP Qf x (pc + 3) lv st) : VV C nL HP Qf x pc lv (.int b :: .int a :: st) := by
  obtain ⟨p, l, e, R, s, m, args, below, meth, c⟩ := C
  intro H locs cells slots ls hH hl
  exact lv_icmp_lt hC.1 hC.2.1 d ht (fun q => kt q H locs cells slots ls hH hl) (fun q => kf q H locs cells slots ls hH hl)
theorem vv_if_ge (hC : VOk C cc nL own) {a : Int32} {off : Int} {tgt : Nat} (d : decode cc pc = .ok (.ifCond .ge off, 3)) (ht : (pc : Int) + off = (tgt : Int)) (kt : 0 ≤ a → VV C nL HP Qf x tgt lv st) (kf : ¬ 0 ≤ a → VV C nL HP Qf x (pc + 3) lv st) : VV C nL HP Qf x pc lv (.int a :: st) := by
  obtain ⟨p, l, e, R, s, m, args, below, meth, c⟩ := C
  intro H locs cells slots ls hH hl
  exact lv_if_ge hC.1 hC.2.1 d ht (fun q => kt q H locs cells slots ls hH hl) (fun q => kf q H locs cells slots ls hH hl)
theorem vv_icmp_ge (hC : VOk C cc nL own) {a b : Int32} {off : Int} {tgt : Nat} (d : decode cc pc = .ok (.if_icmp .ge off, 3)) (ht : (pc : Int) + off = (tgt : Int)) (kt : b ≤ a → VV C nL HP Qf x tgt lv st) (kf : ¬ b ≤ a → VV C nL HP Qf x (pc + 3) lv st) : VV C nL HP Qf x pc lv (.int b :: .int a :: st) := by
  obtain ⟨p, l, e, R, s, m, args, below, meth, c⟩ := C
  intro H locs cells slots ls hH hl
  exact lv_icmp_ge hC.1 hC.2.1 d ht (fun q => kt q H locs cells slots ls hH hl) (fun q => kf q H locs cells slots ls hH hl)
theorem vv_if_gt (hC : VOk C cc nL own) {a : Int32} {off : Int} {tgt : Nat} (d : decode cc pc = .ok (.ifCond .gt off, 3)) (ht : (pc : Int) + off = (tgt : Int)) (kt : 0 < a → VV C nL HP Qf x tgt lv st) (kf : ¬ 0 < a → VV C nL HP Qf x (pc + 3) lv st) : VV C nL HP Qf x pc lv (.int a :: st) := by
  obtain ⟨p, l, e, R, s, m, args, below, meth, c⟩ := C
  intro H locs cells slots ls hH hl
  exact lv_if_gt hC.1 hC.2.1 d ht (fun q => kt q H locs cells slots ls hH hl) (fun q => kf q H locs cells slots ls hH hl)
theorem vv_icmp_gt (hC : VOk C cc nL own) {a b : Int32} {off : Int} {tgt : Nat} (d : decode cc pc = .ok (.if_icmp .gt off, 3)) (ht : (pc : Int) + off = (tgt : Int)) (kt : b < a → VV C nL HP Qf x tgt lv st) (kf : ¬ b < a → VV C nL HP Qf x (pc + 3) lv st) : VV C nL HP Qf x pc lv (.int b :: .int a :: st) := by
  obtain ⟨p, l, e, R, s, m, args, below, meth, c⟩ := C
  intro H locs cells slots ls hH hl
  exact lv_icmp_gt hC.1 hC.2.1 d ht (fun q => kt q H locs cells slots ls hH hl) (fun q => kf q H locs cells slots ls hH hl)
theorem vv_if_le (hC : VOk C cc nL own) {a : Int32} {off : Int} {tgt : Nat} (d : decode cc pc = .ok (.ifCond .le off, 3)) (ht : (pc : Int) + off = (tgt : Int)) (kt : a ≤ 0 → VV C nL HP Qf x tgt lv st) (kf : ¬ a ≤ 0 → VV C nL HP Qf x (pc + 3) lv st) : VV C nL HP Qf x pc lv (.int a :: st) := by
  obtain ⟨p, l, e, R, s, m, args, below, meth, c⟩ := C
  intro H locs cells slots ls hH hl
  exact lv_if_le hC.1 hC.2.1 d ht (fun q => kt q H locs cells slots ls hH hl) (fun q => kf q H locs cells slots ls hH hl)
theorem vv_icmp_le (hC : VOk C cc nL own) {a b : Int32} {off : Int} {tgt : Nat} (d : decode cc pc = .ok (.if_icmp .le off, 3)) (ht : (pc : Int) + off = (tgt : Int)) (kt : a ≤ b → VV C nL HP Qf x tgt lv st) (kf : ¬ a ≤ b → VV C nL HP Qf x (pc + 3) lv st) : VV C nL HP Qf x pc lv (.int b :: .int a :: st) := by
  obtain ⟨p, l, e, R, s, m, args, below, meth, c⟩ := C
  intro H locs cells slots ls hH hl
  exact lv_icmp_le hC.1 hC.2.1 d ht (fun q => kt q H locs cells slots ls hH hl) (fun q => kf q H locs cells slots ls hH hl)
theorem vv_tableOut (hC : VOk C cc nL own) {dflt lo hi : Int} {offs : Array Int} {len : Nat} {a : Int32} {tgt : Nat} (d : decode cc pc = .ok (.tableswitch dflt lo hi offs, len)) (h : a.toInt < lo ∨ hi < a.toInt) (ht : (pc : Int) + dflt = (tgt : Int)) (k : VV C nL HP Qf x tgt lv st) : VV C nL HP Qf x pc lv (.int a :: st) := by
  obtain ⟨p, l, e, R, s, m, args, below, meth, c⟩ := C
  intro H locs cells slots ls hH hl
  exact lv_tableOut hC.1 hC.2.1 d h ht (k H locs cells slots ls hH hl)
theorem vv_tableIn (hC : VOk C cc nL own) {dflt lo hi : Int} {offs : Array Int} {len : Nat} {a : Int32} {off : Int} {tgt : Nat} (d : decode cc pc = .ok (.tableswitch dflt lo hi offs, len)) (h1 : ¬ a.toInt < lo) (h2 : ¬ hi < a.toInt) (ho : offs[(a.toInt - lo).toNat]? = some off) (ht : (pc : Int) + off = (tgt : Int)) (k : VV C nL HP Qf x tgt lv st) : VV C nL HP Qf x pc lv (.int a :: st) := by
  obtain ⟨p, l, e, R, s, m, args, below, meth, c⟩ := C
  intro H locs cells slots ls hH hl
  exact lv_tableIn hC.1 hC.2.1 d h1 h2 ho ht (k H locs cells slots ls hH hl)
theorem vv_lookup (hC : VOk C cc nL own) {dflt : Int} {ps : Array (Int × Int)} {len : Nat} {a : Int32} {off : Int} {tgt : Nat} (d : decode cc pc = .ok (.lookupswitch dflt ps, len)) (hp : (ps.toList.zip (ps.toList.drop 1)).all (fun (a, next) => a.1 < next.1) = true) (ho : Op.lookupswitch.offset ps.toList dflt a.toInt = off) (ht : (pc : Int) + off = (tgt : Int)) (k : VV C nL HP Qf x tgt lv st) : VV C nL HP Qf x pc lv (.int a :: st) := by
  obtain ⟨p, l, e, R, s, m, args, below, meth, c⟩ := C
  intro H locs cells slots ls hH hl
  exact lv_lookup hC.1 hC.2.1 d hp ho ht (k H locs cells slots ls hH hl)

end VVrows
