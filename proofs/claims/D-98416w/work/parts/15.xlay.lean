/-! the region of SealCasts: numbers of its cells. 0 the object; 100+k what its field k points to; 104 the book, 132 its Ask, 133 its list of hands, 134 that list's array, 140+h the hands (160+h its name, 170+2h, 171+2h its nodes: not of the region);
120 the list of facts, 135 its array, the facts: 100000 + address (all that were ever made); 1000+8c the chests (0 now, 1 spare, 2.. were, 42.. boxes), 1000+8c+1+k a chest's arrays; 2000+w, 2100+c the rows of gets and least -/
set_option maxRecDepth 10000
/-- the shape: which numbers are facts, their sorts, the length of their array; how many hands, the length of their array; the formulas of the nodes -/
abbrev XS : Type := (Nat → Bool) × (Nat → Nat) × Nat × Nat × Nat × (Nat → List (Int32 × Int32))
def ftX : Nat → FK := fun k => match k with
  | 0 => .inr (some 100)
  | 1 => .inl 0
  | 2 => .inl 0
  | 3 => .inl 0
  | 4 => .inr (some 104)
  | 5 => .inr (some 1000)
  | 6 => .inr (some 1008)
  | 7 => .inl 0
  | 8 => .inr (some 108)
  | 9 => .inl 0
  | 10 => .inl 0
  | 11 => .inr (some 111)
  | 12 => .inr (some 112)
  | 13 => .inr (some 113)
  | 14 => .inr (some 114)
  | 15 => .inr (some 115)
  | 16 => .inl 0
  | 17 => .inr (some 117)
  | 18 => .inr (some 118)
  | 19 => .inr (some 119)
  | 20 => .inr (some 120)
  | 21 => .inr (some 121)
  | 22 => .inr (some 122)
  | 23 => .inr (some 123)
  | 24 => .inl 0
  | 25 => .inl 0
  | 26 => .inl 0
  | 27 => .inr (some 127)
  | 28 => .inr (some 128)
  | 29 => .inr (some 129)
  | _ => .inr (some 130)
def ftB : Nat → FK := fun k => match k with
  | 0 => .inr (some 133)
  | 1 => .inr (some 132)
  | _ => .inl 0
def ftI : Nat → FK := fun _ => .inl 0
def ftC (c : Nat) : Nat → FK := fun k => if k < 7 then .inr (some (1000 + 8 * c + 1 + k)) else .inl 0
def ftL (d : Nat) : Nat → FK := fun k => if k = 1 then .inr (some d) else .inl 0
def ftH (h : Nat) : Nat → FK := fun k => match k with
  | 0 => .inr (some (160 + h))
  | 1 => .inr (some (170 + 2 * h))
  | _ => .inr (some (171 + 2 * h))
def kdX (S : XS) : Nat → Option KD := fun j => match j with
  | 0 => some (.inl (0, 31, ftX))
  | 100 => some (.inr (1, 1600))
  | 104 => some (.inl (1, 7, ftB))
  | 108 => some (.inr (5, 40))
  | 111 => some (.inr (0, 100))
  | 112 => some (.inr (0, 4))
  | 113 => some (.inr (0, 4))
  | 114 => some (.inr (0, 4))
  | 115 => some (.inr (0, 12))
  | 117 => some (.inr (0, 4096))
  | 118 => some (.inr (6, 16))
  | 119 => some (.inr (6, 5))
  | 120 => some (.inl (11, 3, ftL 135))
  | 121 => some (.inr (7, 7))
  | 122 => some (.inr (0, 7))
  | 123 => some (.inr (0, 7))
  | 127 => some (.inr (0, 8))
  | 128 => some (.inr (0, 8))
  | 129 => some (.inr (5, 3))
  | 130 => some (.inr (2, 3))
  | 132 => some (.inl (2, 8, ftI))
  | 133 => some (.inl (11, 3, ftL 134))
  | 134 => some (.inr (4, S.2.2.2.2.1))
  | 135 => some (.inr (4, S.2.2.1))
  | _ => none
def chK (j : Nat) : KD := if j % 8 = 0 then .inl (3, 12, ftC (j / 8)) else if j % 8 ≤ 4 then .inr (0, 24) else .inr (0, 40)
def fcK (s : Nat) : KD := if s = 0 then .inl (12, 4, ftI) else if s = 1 then .inl (13, 5, ftI) else if s = 2 then .inl (14, 5, ftI) else .inl (15, 5, ftI)
def knX (S : XS) : KN := fun j =>
  if j < 140 then kdX S j
  else if j < 140 + S.2.2.2.1 ∧ j < 144 then some (.inl (10, 3, ftH (j - 140)))
  else if 1000 ≤ j ∧ j < 1360 then some (chK (j - 1000))
  else if (2000 ≤ j ∧ j < 2016) ∨ (2100 ≤ j ∧ j < 2105) then some (.inr (0, 4096))
  else if 100000 ≤ j ∧ S.1 j = true then some (fcK (S.2.1 j))
  else none
def isHandR (S : XS) (b : Nat) : Prop := ∃ h, h < S.2.2.2.1 ∧ h < 4 ∧ b = 140 + h
def isChestR (b : Nat) : Prop := ∃ c, c < 45 ∧ b = 1000 + 8 * c
def isFactR (S : XS) (s b : Nat) : Prop := 100000 ≤ b ∧ S.1 b = true ∧ S.2.1 b = s
theorem kx_hand {S : XS} {b : Nat} (h : isHandR S b) : knX S b = some (.inl (10, 3, ftH (b - 140))) := by
  obtain ⟨h, h1, h2, rfl⟩ := h
  unfold knX
  rw [if_neg (by omega), if_pos ⟨by omega, by omega⟩]
theorem kx_chest {S : XS} {b : Nat} (h : isChestR b) : knX S b = some (.inl (3, 12, ftC ((b - 1000) / 8))) := by
  obtain ⟨c, h1, rfl⟩ := h
  unfold knX
  rw [if_neg (by omega), if_neg (by omega), if_pos ⟨by omega, by omega⟩]
  unfold chK
  rw [if_pos (by omega)]
theorem kx_chestA {S : XS} {b : Nat} (h : isChestR b) (k : Nat) (hk : k < 7) : knX S (b + 1 + k) = some (.inr (0, if k < 4 then 24 else 40)) := by
  obtain ⟨c, h1, rfl⟩ := h
  unfold knX
  rw [if_neg (by omega), if_neg (by omega), if_pos ⟨by omega, by omega⟩]
  unfold chK
  rw [if_neg (by omega)]
  by_cases h : k < 4
  · rw [if_pos (by omega), if_pos h]
  · rw [if_neg (by omega), if_neg h]
theorem kx_fact {S : XS} {s b : Nat} (h : isFactR S s b) : knX S b = some (fcK s) := by
  obtain ⟨h1, h2, h3⟩ := h
  unfold knX
  rw [if_neg (by omega), if_neg (by omega), if_neg (by omega), if_neg (by omega), if_pos ⟨h1, h2⟩, h3]
theorem kx_gets {S : XS} {i : Int32} (h : vp_in i 16) : knX S (2000 + i.toNatClampNeg) = some (.inr (0, 4096)) := by
  have : i.toNatClampNeg < 16 := Nat.not_le.mp fun q => h (Or.inr q)
  unfold knX
  rw [if_neg (by omega), if_neg (by omega), if_neg (by omega), if_pos (by omega)]
theorem kx_least {S : XS} {i : Int32} (h : vp_in i 5) : knX S (2100 + i.toNatClampNeg) = some (.inr (0, 4096)) := by
  have : i.toNatClampNeg < 5 := Nat.not_le.mp fun q => h (Or.inr q)
  unfold knX
  rw [if_neg (by omega), if_neg (by omega), if_neg (by omega), if_pos (by omega)]
theorem lx_0 (S : XS) : knX S 0 = some (.inl (0, 31, ftX)) := rfl
theorem lx_100 (S : XS) : knX S 100 = some (.inr (1, 1600)) := rfl
theorem lx_104 (S : XS) : knX S 104 = some (.inl (1, 7, ftB)) := rfl
theorem lx_108 (S : XS) : knX S 108 = some (.inr (5, 40)) := rfl
theorem lx_111 (S : XS) : knX S 111 = some (.inr (0, 100)) := rfl
theorem lx_112 (S : XS) : knX S 112 = some (.inr (0, 4)) := rfl
theorem lx_113 (S : XS) : knX S 113 = some (.inr (0, 4)) := rfl
theorem lx_114 (S : XS) : knX S 114 = some (.inr (0, 4)) := rfl
theorem lx_115 (S : XS) : knX S 115 = some (.inr (0, 12)) := rfl
theorem lx_117 (S : XS) : knX S 117 = some (.inr (0, 4096)) := rfl
theorem lx_118 (S : XS) : knX S 118 = some (.inr (6, 16)) := rfl
theorem lx_119 (S : XS) : knX S 119 = some (.inr (6, 5)) := rfl
theorem lx_120 (S : XS) : knX S 120 = some (.inl (11, 3, ftL 135)) := rfl
theorem lx_121 (S : XS) : knX S 121 = some (.inr (7, 7)) := rfl
theorem lx_122 (S : XS) : knX S 122 = some (.inr (0, 7)) := rfl
theorem lx_123 (S : XS) : knX S 123 = some (.inr (0, 7)) := rfl
theorem lx_127 (S : XS) : knX S 127 = some (.inr (0, 8)) := rfl
theorem lx_128 (S : XS) : knX S 128 = some (.inr (0, 8)) := rfl
theorem lx_129 (S : XS) : knX S 129 = some (.inr (5, 3)) := rfl
theorem lx_130 (S : XS) : knX S 130 = some (.inr (2, 3)) := rfl
theorem lx_132 (S : XS) : knX S 132 = some (.inl (2, 8, ftI)) := rfl
theorem lx_133 (S : XS) : knX S 133 = some (.inl (11, 3, ftL 134)) := rfl
theorem lx_134 (S : XS) : knX S 134 = some (.inr (4, S.2.2.2.2.1)) := rfl
theorem lx_135 (S : XS) : knX S 135 = some (.inr (4, S.2.2.1)) := rfl
theorem kx_now {S : XS} : isChestR 1000 := ⟨0, by omega, rfl⟩
theorem kx_spare {S : XS} : isChestR 1008 := ⟨1, by omega, rfl⟩
theorem lx_1000 (S : XS) : knX S 1000 = some (.inl (3, 12, ftC 0)) := kx_chest (S := S) (b := 1000) ⟨0, by omega, rfl⟩
theorem lx_1008 (S : XS) : knX S 1008 = some (.inl (3, 12, ftC 1)) := kx_chest (S := S) (b := 1008) ⟨1, by omega, rfl⟩
theorem lx_1001 (S : XS) : knX S 1001 = some (.inr (0, 24)) := kx_chestA (S := S) (b := 1000) ⟨0, by omega, rfl⟩ 0 (by omega)
theorem lx_1002 (S : XS) : knX S 1002 = some (.inr (0, 24)) := kx_chestA (S := S) (b := 1000) ⟨0, by omega, rfl⟩ 1 (by omega)
theorem lx_1003 (S : XS) : knX S 1003 = some (.inr (0, 24)) := kx_chestA (S := S) (b := 1000) ⟨0, by omega, rfl⟩ 2 (by omega)
theorem lx_1004 (S : XS) : knX S 1004 = some (.inr (0, 24)) := kx_chestA (S := S) (b := 1000) ⟨0, by omega, rfl⟩ 3 (by omega)
theorem lx_1005 (S : XS) : knX S 1005 = some (.inr (0, 40)) := kx_chestA (S := S) (b := 1000) ⟨0, by omega, rfl⟩ 4 (by omega)
theorem lx_1006 (S : XS) : knX S 1006 = some (.inr (0, 40)) := kx_chestA (S := S) (b := 1000) ⟨0, by omega, rfl⟩ 5 (by omega)
theorem lx_1007 (S : XS) : knX S 1007 = some (.inr (0, 40)) := kx_chestA (S := S) (b := 1000) ⟨0, by omega, rfl⟩ 6 (by omega)
theorem lx_2100 (S : XS) : knX S 2100 = some (.inr (0, 4096)) := by
  unfold knX
  rw [if_neg (by omega), if_neg (by omega), if_neg (by omega), if_pos (by omega)]
theorem lx_2104 (S : XS) : knX S 2104 = some (.inr (0, 4096)) := by
  unfold knX
  rw [if_neg (by omega), if_neg (by omega), if_neg (by omega), if_pos (by omega)]
