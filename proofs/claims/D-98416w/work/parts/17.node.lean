/-! Math.min, Math.max; formulas in the order of their emission, their value; nodes -/
set_option maxRecDepth 10000
section Mth
variable {ε : Type} {C : VCx} {nL : Nat} {HP : WS × ε → Heap → List Loc → Nat → Nat → Prop} {Qf : State → Prop} {x : WS × ε} {pc : Nat} {lv : List (Nat × Value)} {st : List Value} {cc : ByteArray} {own : String}
theorem vv_mmax (hC : VOk C cc nL own) (hRo : RoomOk HP (vR C)) {index : Nat} (hw : Cond.methodLink own index Lib.Math.max.name ∈ lw_all ∧ Cond.static Lib.Math.max.name ∈ lw_all ∧ Cond.initialized "java/lang/Math" ∈ lw_all ∧ Cond.code Lib.Math.max.name Lib.Math.max.code 2 (some .int) ∈ lw_all) (hrm : 1 ≤ (vR C).frames ∧ (st.map fun v => v.category).sum + 13 ≤ (vR C).locals) {a b : Int32} (d : decode cc pc = .ok (.invokestatic index, 3)) (k : VV C nL HP Qf x (pc + 3) lv (.int (if a < b then b else a) :: st)) : VV C nL HP Qf x pc lv (.int b :: .int a :: st) := by
  obtain ⟨p, l, e, R, s, m, args, below, meth, c⟩ := C
  intro H locs cells slots ls hH hl
  have hro := hRo _ _ _ _ _ hH
  obtain ⟨hx, hb, hml, hown, hts⟩ := hC
  exact va_mmax hx hb (hml.trans hl.1.symm) hown (hts _ hw.1) (hts _ hw.2.1) (hts _ hw.2.2.1) (hts _ hw.2.2.2) hrm.1 hrm.2 hro.1 hro.2 d (k H locs cells slots ls hH hl)
theorem vv_mmin (hC : VOk C cc nL own) (hRo : RoomOk HP (vR C)) {index : Nat} (hw : Cond.methodLink own index Lib.Math.min.name ∈ lw_all ∧ Cond.static Lib.Math.min.name ∈ lw_all ∧ Cond.initialized "java/lang/Math" ∈ lw_all ∧ Cond.code Lib.Math.min.name Lib.Math.min.code 2 (some .int) ∈ lw_all) (hrm : 1 ≤ (vR C).frames ∧ (st.map fun v => v.category).sum + 13 ≤ (vR C).locals) {a b : Int32} (d : decode cc pc = .ok (.invokestatic index, 3)) (k : VV C nL HP Qf x (pc + 3) lv (.int (if b < a then b else a) :: st)) : VV C nL HP Qf x pc lv (.int b :: .int a :: st) := by
  obtain ⟨p, l, e, R, s, m, args, below, meth, c⟩ := C
  intro H locs cells slots ls hH hl
  have hro := hRo _ _ _ _ _ hH
  obtain ⟨hx, hb, hml, hown, hts⟩ := hC
  exact va_mmin hx hb (hml.trans hl.1.symm) hown (hts _ hw.1) (hts _ hw.2.1) (hts _ hw.2.2.1) (hts _ hw.2.2.2) hrm.1 hrm.2 hro.1 hro.2 d (k H locs cells slots ls hH hl)
end Mth
def evTwo (c a b : Int32) : Int32 :=
  if c = 43 then a + b else if c = 45 then a - b else if c = 42 then a * b
  else if c = 47 then (if b = 0 then 0 else a / b) else if c = 37 then (if b = 0 then 0 else a - a / b * b)
  else if c = 60 then (if a < b then 1 else 0) else if c = 62 then (if b < a then 1 else 0) else if c = 61 then (if a = b then 1 else 0)
  else if c = 38 then (if a ≠ 0 ∧ b ≠ 0 then 1 else 0) else (if a ≠ 0 ∨ b ≠ 0 then 1 else 0)
def evLet (ask : Nat → Int32) (c n : Int32) : Int32 :=
  if c = 109 then ask 0 else if c = 104 then ask 1 else if c = 108 then ask 2 else if c = 114 then ask 3
  else if c = 121 then ask 4 else if c = 106 then ask 5 else if c = 116 then ask 6 else if c = 100 then ask 7 else n
def evStep (ask : Nat → Int32) (q : Int32 × Int32) (st : List Int32) : List Int32 :=
  if q.1 = 126 then (match st with | x :: t => (if x = 0 then 1 else 0) :: t | [] => [])
  else if 97 ≤ q.1 ∧ q.1 ≤ 122 then evLet ask q.1 q.2 :: st
  else match st with | y :: x :: t => evTwo q.1 x y :: t | t => t
def ev (ask : Nat → Int32) (L : List (Int32 × Int32)) (st : List Int32) : List Int32 := L.foldl (fun s q => evStep ask q s) st
def evV (ask : Nat → Int32) (L : List (Int32 × Int32)) : Int32 := (ev ask L []).headD 0
theorem ev_app (ask : Nat → Int32) (L L' : List (Int32 × Int32)) (st : List Int32) : ev ask (L ++ L') st = ev ask L' (ev ask L st) := by simp [ev]
theorem ev_one (ask : Nat → Int32) (q : Int32 × Int32) (st : List Int32) : ev ask [q] st = evStep ask q st := rfl
def askC : Nat → Int32 := fun k => match k with
  | 0 => 109
  | 1 => 104
  | 2 => 108
  | 3 => 114
  | 4 => 121
  | 5 => 106
  | 6 => 116
  | _ => 100
def opC (c : Int32) : Prop := c = 43 ∨ c = 45 ∨ c = 42 ∨ c = 47 ∨ c = 37 ∨ c = 60 ∨ c = 62 ∨ c = 61 ∨ c = 38 ∨ c = 124
def pairV (l r : Nat) (c : Int32) : Nat → Value := fun k => if k = 0 then .ref l else if k = 1 then .ref r else .int c
/-- the cell at a is a node, at most d deep, of the formula L -/
def nodeP (D : va_G) (ac : Nat → ClassId) (out : Nat → Prop) : Nat → Nat → List (Int32 × Int32) → Heap → Prop
  | 0, _, _, _ => False
  | d + 1, a, L, H => out a ∧ ((∃ v, L = [(110, v)] ∧ t_OB a (D.1 8) 1 (D.2 8) H (fun _ => .int v)) ∨
      (∃ k, k < 8 ∧ L = [(askC k, 0)] ∧ ∃ cell : Cell, H[a]? = some cell ∧ cell.vm.isStatics = false ∧ cell.cls = ac (20 + k)) ∨
      (∃ n L1, L = L1 ++ [(126, 0)] ∧ t_OB a (D.1 7) 1 (D.2 7) H (fun _ => .ref n) ∧ nodeP D ac out d n L1 H) ∨
      (∃ l r c L1 L2, L = L1 ++ L2 ++ [(c, 0)] ∧ opC c ∧ t_OB a (D.1 9) 3 (D.2 9) H (pairV l r c) ∧ nodeP D ac out d l L1 H ∧ nodeP D ac out d r L2 H))
theorem nodeP.kept {D : va_G} {ac : Nat → ClassId} {out : Nat → Prop} {H H' : Heap} (h : ∀ q, out q → q < H.size → H'[q]? = H[q]?) : ∀ (d a : Nat) (L : List (Int32 × Int32)), nodeP D ac out d a L H → nodeP D ac out d a L H'
  | 0, _, _, hn => hn
  | d + 1, a, L, hn => by
    obtain ⟨ho, hc⟩ := hn
    have ho' : (∃ cell : Cell, H[a]? = some cell) → H'[a]? = H[a]? := fun ⟨_, hcell⟩ => h a ho (Array.getElem?_eq_some_iff.mp hcell).1
    have hob : ∀ {cC : ClassId} {N : Nat} {iS : Nat → Nat} {V : Nat → Value}, t_OB a cC N iS H V → t_OB a cC N iS H' V := fun {cC N iS V} ht => by
      obtain ⟨cell, hcell, hr⟩ := ht
      exact ⟨cell, by rw [ho' ⟨cell, hcell⟩]; exact hcell, hr⟩
    refine ⟨ho, ?_⟩
    rcases hc with ⟨v, e, ht⟩ | ⟨k, hk, e, cell, g1, g2, g3⟩ | ⟨n, L1, e, ht, h1⟩ | ⟨l, r, c, L1, L2, e, hop, ht, h1, h2⟩
    · exact Or.inl ⟨v, e, hob ht⟩
    · exact Or.inr (Or.inl ⟨k, hk, e, cell, by rw [ho' ⟨cell, g1⟩]; exact g1, g2, g3⟩)
    · exact Or.inr (Or.inr (Or.inl ⟨n, L1, e, hob ht, nodeP.kept h d n L1 h1⟩))
    · exact Or.inr (Or.inr (Or.inr ⟨l, r, c, L1, L2, e, hop, hob ht, nodeP.kept h d l L1 h1, nodeP.kept h d r L2 h2⟩))
theorem askC_let : ∀ k, k < 8 → ¬ askC k = 126 ∧ (97 ≤ askC k ∧ askC k ≤ 122) := by decide
theorem evLet_ask (ask : Nat → Int32) (n : Int32) : ∀ k, k < 8 → evLet ask (askC k) n = ask k := by
  intro k hk
  match k, hk with
  | 0, _ => rfl
  | 1, _ => rfl
  | 2, _ => rfl
  | 3, _ => rfl
  | 4, _ => rfl
  | 5, _ => rfl
  | 6, _ => rfl
  | 7, _ => rfl
theorem opC_not {c : Int32} (h : opC c) : ¬ c = 126 ∧ ¬ (97 ≤ c ∧ c ≤ 122) := by
  rcases h with rfl | rfl | rfl | rfl | rfl | rfl | rfl | rfl | rfl | rfl <;> decide
theorem ev_val {ask : Nat → Int32} {v : Int32} (st : List Int32) : ev ask [(110, v)] st = v :: st := rfl
theorem ev_ask {ask : Nat → Int32} {k : Nat} (hk : k < 8) (st : List Int32) : ev ask [(askC k, 0)] st = ask k :: st := by
  rw [ev_one]
  unfold evStep
  rw [if_neg (askC_let k hk).1, if_pos (askC_let k hk).2, evLet_ask ask 0 k hk]
theorem ev_not {ask : Nat → Int32} {L : List (Int32 × Int32)} {v : Int32} (h : ∀ st, ev ask L st = v :: st) (st : List Int32) : ev ask (L ++ [(126, 0)]) st = (if v = 0 then 1 else 0) :: st := by
  rw [ev_app, h, ev_one]
  rfl
theorem ev_two {ask : Nat → Int32} {L L' : List (Int32 × Int32)} {c v w : Int32} (hc : opC c) (h : ∀ st, ev ask L st = v :: st) (h' : ∀ st, ev ask L' st = w :: st) (st : List Int32) : ev ask (L ++ L' ++ [(c, 0)]) st = evTwo c v w :: st := by
  rw [ev_app, ev_app, h, h', ev_one]
  unfold evStep
  rw [if_neg (opC_not hc).1, if_neg (opC_not hc).2]
theorem evV_of {ask : Nat → Int32} {L : List (Int32 × Int32)} {v : Int32} (h : ∀ st, ev ask L st = v :: st) : evV ask L = v := by
  unfold evV
  rw [h]
  rfl
theorem nodeP.ev {D : va_G} {ac : Nat → ClassId} {out : Nat → Prop} {H : Heap} (ask : Nat → Int32) : ∀ (d a : Nat) (L : List (Int32 × Int32)), nodeP D ac out d a L H → ∀ st, ev ask L st = evV ask L :: st
  | 0, _, _, hn => hn.elim
  | d + 1, a, L, hn => by
    obtain ⟨-, hc⟩ := hn
    rcases hc with ⟨v, rfl, -⟩ | ⟨k, hk, rfl, -⟩ | ⟨n, L1, rfl, -, h1⟩ | ⟨l, r, c, L1, L2, rfl, hop, -, h1, h2⟩
    · intro st; rfl
    · intro st; rw [evV_of (ev_ask hk)]; exact ev_ask hk st
    · have e := nodeP.ev ask d n L1 h1
      intro st; rw [evV_of (ev_not e)]; exact ev_not e st
    · have e1 := nodeP.ev ask d l L1 h1
      have e2 := nodeP.ev ask d r L2 h2
      intro st; rw [evV_of (ev_two hop e1 e2)]; exact ev_two hop e1 e2 st
