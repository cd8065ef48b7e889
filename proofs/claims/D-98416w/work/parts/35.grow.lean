/-! regions that grow: a new cell has the number 100000 + its address -/
set_option maxRecDepth 10000
def kset (kn : KN) (j : Nat) (kd : KD) : KN := fun x => if x = j then some kd else kn x
def wclr (μ : WS) (j : Nat) : WS := (fun a b => if a = j then 0 else μ.1 a b, fun a b => if a = j then 0 else μ.2.1 a b, fun a b => if a = j then none else μ.2.2 a b)
def adR (ad : Nat → Nat) : Prop := ∀ a, ad (100000 + a) = a
/-- what Ex says hangs on old cells outside the region alone -/
def ExG (ad : Nat → Nat) (kn0 : KN) (h0 : Nat) (Ex : Heap → Prop) : Prop := ∀ H H' : Heap, (∀ q : Nat, q < h0 → ¬ inLay ad kn0 q → H'[q]? = H[q]?) → Ex H → Ex H'
def sub0 (ad : Nat → Nat) (kn kn0 : KN) (h0 : Nat) : Prop := ∀ q, inLay ad kn q → inLay ad kn0 q ∨ h0 ≤ q
theorem ExG.to {ad : Nat → Nat} {kn kn0 : KN} {h0 h : Nat} {Ex : Heap → Prop} (hE : ExG ad kn0 h0 Ex) (hs : sub0 ad kn kn0 h0) (hh : h0 ≤ h) : ExG ad kn h Ex := by
  intro H H' ho h1
  refine hE H H' (fun q hq hn => ho q (Nat.lt_of_lt_of_le hq hh) (fun hi => ?_)) h1
  rcases hs q hi with h2 | h2
  · exact hn h2
  · omega
def HPG (D : va_G) (ac : Nat → ClassId) (ad : Nat → Nat) (kn : KN) (Ex : Heap → Prop) (kn0 : KN) (s : State) (h c n : Nat) : WS × Unit → Heap → List Loc → Nat → Nat → Prop := fun x H locs cells slots => cells = c ∧ slots = n ∧ H.size = h ∧ HW D ac ad kn x.1 H ∧ s.heap.size ≤ h ∧ (∀ q : Nat, q < s.heap.size → ¬ inLay ad kn0 q → H[q]? = s.heap[q]?) ∧ (∀ l ∈ locs, inLay ad kn0 l.base ∨ s.heap.size ≤ l.base) ∧ sub0 ad kn kn0 s.heap.size ∧ Ex H
theorem HPG.reg {D : va_G} {ac : Nat → ClassId} {ad : Nat → Nat} {kn : KN} {Ex : Heap → Prop} {kn0 : KN} {s : State} {h c n : Nat} (hL : LayOk ad kn) (hE : ExG ad kn0 s.heap.size Ex) : RegOk (HPG D ac ad kn Ex kn0 s h c n) D ac ad kn Ex := by
  refine ⟨hL, fun x H locs cc nn hH => hH.2.2.2.1, ?_, fun x H locs cc nn hH => hH.2.2.2.2.2.2.2.2⟩
  intro x H locs cc nn μ' H' L hH hW hs ho hl
  obtain ⟨h1, h2, h3, h4, h5, h6, h7, h8, h9⟩ := hH
  have ho' : ∀ q : Nat, q < s.heap.size → ¬ inLay ad kn0 q → H'[q]? = H[q]? := fun q hq hn => ho q (fun hi => by
    rcases h8 q hi with h | h
    · exact hn h
    · omega)
  refine ⟨h1, h2, hs.trans h3, hW, h5, fun q hq hn => (ho' q hq hn).trans (h6 q hq hn), fun l hm => ?_, h8, hE H H' ho' h9⟩
  rcases List.mem_append.mp hm with h | h
  · exact h7 l h
  · exact h8 _ (hl l h)
theorem HPG.room {D : va_G} {ac : Nat → ClassId} {ad : Nat → Nat} {kn : KN} {Ex : Heap → Prop} {kn0 : KN} {s : State} {h c n : Nat} {R : Room} (hc : c ≤ R.cells) (hn : n ≤ R.slots) : RoomOk (HPG D ac ad kn Ex kn0 s h c n) R := fun x H locs cc nn hH => by
  rw [hH.1, hH.2.1]
  exact ⟨hc, hn⟩
theorem cellOK.lt {D : va_G} {ac : Nat → ClassId} {ad : Nat → Nat} {a : Nat} {kd : KD} {f : Nat → Int32} {g : Nat → Int64} {r : Nat → Option Nat} {H : Heap} (h : cellOK D ac ad a kd f g r H) : a < H.size := by
  obtain ⟨ci, N, ft⟩ | ⟨t, n⟩ := kd
  · obtain ⟨cell, hc, -⟩ := h
    exact (Array.getElem?_eq_some_iff.mp hc).1
  · exact (Array.getElem?_eq_some_iff.mp h).1
/-- a new cell comes to a region -/
theorem HW.grow {D : va_G} {ac : Nat → ClassId} {ad : Nat → Nat} {kn : KN} {μ : WS} {H H1 : Heap} {h : Nat} {kd : KD} (hA : adR ad) (hW : HW D ac ad kn μ H) (hL : LayOk ad kn) (hs : H.size = h) (ho : ∀ q, q < h → H1[q]? = H[q]?) (hc : cellOK D ac ad h kd (fun _ => 0) (fun _ => 0) (fun _ => none) H1) :
    HW D ac ad (kset kn (100000 + h) kd) (wclr μ (100000 + h)) H1 ∧ LayOk ad (kset kn (100000 + h) kd) ∧ (∀ j kd', kn j = some kd' → j ≠ 100000 + h) := by
  have hlt : ∀ j kd', kn j = some kd' → ad j < h := fun j kd' hj => by rw [← hs]; exact (hW j kd' hj).lt
  have hne : ∀ j kd', kn j = some kd' → j ≠ 100000 + h := fun j kd' hj e => by
    have := hlt j kd' hj
    rw [e, hA h] at this
    omega
  refine ⟨?_, ?_, hne⟩
  · intro j kd' hj
    unfold kset at hj
    by_cases e : j = 100000 + h
    · rw [if_pos e] at hj
      cases hj
      subst e
      rw [hA h]
      have e1 : (wclr μ (100000 + h)).1 (100000 + h) = fun _ => 0 := by funext b; simp [wclr]
      have e2 : (wclr μ (100000 + h)).2.1 (100000 + h) = fun _ => 0 := by funext b; simp [wclr]
      have e3 : (wclr μ (100000 + h)).2.2 (100000 + h) = fun _ => none := by funext b; simp [wclr]
      rw [e1, e2, e3]
      exact hc
    · rw [if_neg e] at hj
      have e1 : (wclr μ (100000 + h)).1 j = μ.1 j := by funext b; simp [wclr, e]
      have e2 : (wclr μ (100000 + h)).2.1 j = μ.2.1 j := by funext b; simp [wclr, e]
      have e3 : (wclr μ (100000 + h)).2.2 j = μ.2.2 j := by funext b; simp [wclr, e]
      rw [e1, e2, e3]
      exact (hW j kd' hj).kept (ho _ (hlt j kd' hj))
  · intro j j' kd1 kd2 h1 h2 he
    unfold kset at h1 h2
    by_cases e : j = 100000 + h <;> by_cases e' : j' = 100000 + h
    · rw [e, e']
    · rw [if_neg e'] at h2
      have := hlt j' _ h2
      rw [← he, e, hA h] at this
      omega
    · rw [if_neg e] at h1
      have := hlt j _ h1
      rw [he, e', hA h] at this
      omega
    · rw [if_neg e] at h1
      rw [if_neg e'] at h2
      exact hL j j' _ _ h1 h2 he
theorem sub0.grow {ad : Nat → Nat} {kn kn0 : KN} {h0 h : Nat} {kd : KD} (hA : adR ad) (hs : sub0 ad kn kn0 h0) (hh : h0 ≤ h) : sub0 ad (kset kn (100000 + h) kd) kn0 h0 := by
  rintro q ⟨j, kd', hj, rfl⟩
  unfold kset at hj
  by_cases e : j = 100000 + h
  · rw [e, hA h]; exact Or.inr hh
  · rw [if_neg e] at hj
    exact hs _ ⟨j, kd', hj, rfl⟩
/-- the standard kinds of a class's fields -/
def ftS (ty : Nat → FieldType) : Nat → FK := fun k => match ty k with
  | .long => .inl 1
  | .object _ => .inl 2
  | .array _ => .inl 2
  | _ => .inl 0
def numT (t : FieldType) : Bool := match t with
  | .float => false
  | .double => false
  | _ => true
theorem ftS_blank {ad : Nat → Nat} {ty : Nat → FieldType} {k : Nat} (h : numT (ty k) = true) : defaultValue (ty k) = fval ad (ftS ty) (fun _ => 0) (fun _ => 0) (fun _ => none) k := by
  unfold fval ftS
  cases hk : ty k <;> rw [hk] at h <;> first | rfl | exact absurd h Bool.false_ne_true
section Grow
variable {C : VCx} {nL : Nat} {Qf : State → Prop} {μ : WS} {pc : Nat} {lv : List (Nat × Value)} {st : List Value} {cc : ByteArray} {own : String} {D : va_G} {ac : Nat → ClassId} {ad : Nat → Nat} {kn kn0 : KN} {Ex : Heap → Prop} {h c n : Nat}
/-- new: an object of the class ci, all its fields as they are born -/
theorem vv_newG (hC : VOk C cc nL own) (hK : KK D ac (vS C)) (hA : adR ad) (hL : LayOk ad kn) (hE : ExG ad kn0 (vS C).heap.size Ex) {index ci N : Nat} {Cn : String} {T : u_T} {ty : Nat → FieldType} (hc : clAll[ci]? = some (Cn, T, N)) (hin : ∀ w ∈ u_ws Cn T N, w ∈ lw_all) (hty : ∀ k, k < N → parseFieldDescriptor (T k).2.2.1 = some (ty k)) (hnum : ∀ k, k < N → numT (ty k) = true) (hw1 : Cond.classLink own index Cn ∈ lw_all) (hw2 : Cond.instantiable Cn N ∈ lw_all) (hw3 : Cond.initialized Cn ∈ lw_all) (hr1 : c + 1 ≤ (vR C).cells) (hr2 : n + N ≤ (vR C).slots) (d : decode cc pc = .ok (.new index, 3))
    (kk : LayOk ad (kset kn (100000 + h) (.inl (ci, N, ftS ty))) → (∀ j kd', kn j = some kd' → j ≠ 100000 + h) → VV C nL (HPG D ac ad (kset kn (100000 + h) (.inl (ci, N, ftS ty))) Ex kn0 (vS C) (h + 1) (c + 1) (n + N)) Qf (wclr μ (100000 + h), ()) (pc + 3) lv (.ref (ad (100000 + h)) :: st)) : VV C nL (HPG D ac ad kn Ex kn0 (vS C) h c n) Qf (μ, ()) pc lv st := by
  obtain ⟨p, l, e, R, s, m, args, below, meth, cd⟩ := C
  intro H locs cells slots ls hH hl
  obtain ⟨rfl, rfl, h3, h4, h5, h6, h7, h8, h9⟩ := hH
  obtain ⟨hx, hb, hml, hown, hts⟩ := hC
  have hKn := hK.1.1 ci _ hc
  refine W.newcK hx hb hown (hts _ hw1) (hts _ hw2) (hts _ hw3) rfl d hr1 hr2 hKn.2.1 h3 fun H1 kC hkC e1 z1 o1 => ?_
  obtain ⟨g1, g2, g3⟩ := HW.grow (kd := .inl (ci, N, ftS ty)) hA h4 hL h3 o1 ((u_born ty hts hin hKn hkC e1 hty).to (fun k hk => ftS_blank (hnum k hk)))
  have := kk g2 g3 H1 locs _ _ ls ⟨rfl, rfl, z1, g1, Nat.le_succ_of_le h5, fun q hq hn => (o1 q (Nat.lt_of_lt_of_le hq h5)).trans (h6 q hq hn), h7, h8.grow hA h5, hE H H1 (fun q hq _ => o1 q (Nat.lt_of_lt_of_le hq h5)) h9⟩ hl
  rw [hA h] at this
  exact this
end Grow
