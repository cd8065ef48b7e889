set_option maxRecDepth 100000
theorem bp_m2 : (Int8.ofInt (-2)).toInt32 = (-2) := by decide
theorem bp_6 : (Int8.ofInt 6).toInt32 = 6 := by decide
theorem bp_7 : (Int8.ofInt 7).toInt32 = 7 := by decide
theorem bp_8 : (Int8.ofInt 8).toInt32 = 8 := by decide
theorem bp_9 : (Int8.ofInt 9).toInt32 = 9 := by decide
theorem bp_10 : (Int8.ofInt 10).toInt32 = 10 := by decide
theorem bp_12 : (Int8.ofInt 12).toInt32 = 12 := by decide
theorem bp_16 : (Int8.ofInt 16).toInt32 = 16 := by decide
theorem bp_20 : (Int8.ofInt 20).toInt32 = 20 := by decide
theorem bp_24 : (Int8.ofInt 24).toInt32 = 24 := by decide
theorem bp_30 : (Int8.ofInt 30).toInt32 = 30 := by decide
theorem bp_32 : (Int8.ofInt 32).toInt32 = 32 := by decide
theorem bp_37 : (Int8.ofInt 37).toInt32 = 37 := by decide
theorem bp_38 : (Int8.ofInt 38).toInt32 = 38 := by decide
theorem bp_40 : (Int8.ofInt 40).toInt32 = 40 := by decide
theorem bp_41 : (Int8.ofInt 41).toInt32 = 41 := by decide
theorem bp_42 : (Int8.ofInt 42).toInt32 = 42 := by decide
theorem bp_43 : (Int8.ofInt 43).toInt32 = 43 := by decide
theorem bp_45 : (Int8.ofInt 45).toInt32 = 45 := by decide
theorem bp_47 : (Int8.ofInt 47).toInt32 = 47 := by decide
theorem bp_48 : (Int8.ofInt 48).toInt32 = 48 := by decide
theorem bp_57 : (Int8.ofInt 57).toInt32 = 57 := by decide
theorem bp_59 : (Int8.ofInt 59).toInt32 = 59 := by decide
theorem bp_60 : (Int8.ofInt 60).toInt32 = 60 := by decide
theorem bp_61 : (Int8.ofInt 61).toInt32 = 61 := by decide
theorem bp_62 : (Int8.ofInt 62).toInt32 = 62 := by decide
theorem bp_71 : (Int8.ofInt 71).toInt32 = 71 := by decide
theorem bp_90 : (Int8.ofInt 90).toInt32 = 90 := by decide
theorem bp_96 : (Int8.ofInt 96).toInt32 = 96 := by decide
theorem bp_97 : (Int8.ofInt 97).toInt32 = 97 := by decide
theorem bp_99 : (Int8.ofInt 99).toInt32 = 99 := by decide
theorem bp_100 : (Int8.ofInt 100).toInt32 = 100 := by decide
theorem bp_104 : (Int8.ofInt 104).toInt32 = 104 := by decide
theorem bp_106 : (Int8.ofInt 106).toInt32 = 106 := by decide
theorem bp_108 : (Int8.ofInt 108).toInt32 = 108 := by decide
theorem bp_109 : (Int8.ofInt 109).toInt32 = 109 := by decide
theorem bp_110 : (Int8.ofInt 110).toInt32 = 110 := by decide
theorem bp_114 : (Int8.ofInt 114).toInt32 = 114 := by decide
theorem bp_116 : (Int8.ofInt 116).toInt32 = 116 := by decide
theorem bp_121 : (Int8.ofInt 121).toInt32 = 121 := by decide
theorem bp_122 : (Int8.ofInt 122).toInt32 = 122 := by decide
theorem bp_124 : (Int8.ofInt 124).toInt32 = 124 := by decide
theorem bp_126 : (Int8.ofInt 126).toInt32 = 126 := by decide
theorem ic_m1 : Int32.ofInt (-1) = (-1) := by decide
theorem ic_0 : Int32.ofInt 0 = 0 := by decide
theorem ic_1 : Int32.ofInt 1 = 1 := by decide
theorem ic_2 : Int32.ofInt 2 = 2 := by decide
theorem ic_3 : Int32.ofInt 3 = 3 := by decide
theorem ic_4 : Int32.ofInt 4 = 4 := by decide
theorem ic_5 : Int32.ofInt 5 = 5 := by decide
theorem sp_137 : (Int16.ofInt 137).toInt32 = 137 := by decide
theorem sp_216 : (Int16.ofInt 216).toInt32 = 216 := by decide
theorem sp_217 : (Int16.ofInt 217).toInt32 = 217 := by decide
theorem sp_218 : (Int16.ofInt 218).toInt32 = 218 := by decide
theorem sp_219 : (Int16.ofInt 219).toInt32 = 219 := by decide
theorem sp_220 : (Int16.ofInt 220).toInt32 = 220 := by decide
theorem sp_221 : (Int16.ofInt 221).toInt32 = 221 := by decide
theorem sp_255 : (Int16.ofInt 255).toInt32 = 255 := by decide
theorem sp_560 : (Int16.ofInt 560).toInt32 = 560 := by decide
theorem sp_999 : (Int16.ofInt 999).toInt32 = 999 := by decide
theorem sp_1000 : (Int16.ofInt 1000).toInt32 = 1000 := by decide
theorem sp_1600 : (Int16.ofInt 1600).toInt32 = 1600 := by decide
theorem sp_4096 : (Int16.ofInt 4096).toInt32 = 4096 := by decide
theorem sp_8840 : (Int16.ofInt 8840).toInt32 = 8840 := by decide
theorem sp_16384 : (Int16.ofInt 16384).toInt32 = 16384 := by decide
theorem vin_0_8 : vp_in 0 8 := by unfold vp_in; decide
theorem vin_0_12 : vp_in 0 12 := by unfold vp_in; decide
theorem vin_0_60 : vp_in 0 60 := by unfold vp_in; decide
theorem vin_0_221 : vp_in 0 221 := by unfold vp_in; decide
theorem vin_1_221 : vp_in 1 221 := by unfold vp_in; decide
theorem vin_2_221 : vp_in 2 221 := by unfold vp_in; decide
theorem vin_216_221 : vp_in 216 221 := by unfold vp_in; decide
theorem vin_217_221 : vp_in 217 221 := by unfold vp_in; decide
theorem vin_218_221 : vp_in 218 221 := by unfold vp_in; decide
theorem vin_219_221 : vp_in 219 221 := by unfold vp_in; decide
theorem vin_220_221 : vp_in 220 221 := by unfold vp_in; decide
/-! the region of SealCastsModel: its object at m, its arrays behind it; printed by gen/walk.py -/
def ftM : Nat → FK := fun k => match k with
  | 0 => .inr (some 1)
  | 1 => .inr (some 2)
  | 2 => .inl 0
  | 3 => .inl 0
  | 4 => .inl 0
  | 5 => .inl 0
  | 6 => .inl 0
  | 7 => .inl 0
  | 8 => .inl 0
  | 9 => .inl 0
  | 10 => .inl 1
  | 11 => .inr (some 3)
  | 12 => .inr (some 4)
  | 13 => .inr (some 5)
  | 14 => .inr (some 6)
  | 15 => .inr (some 7)
  | 16 => .inr (some 8)
  | 17 => .inr (some 9)
  | 18 => .inr (some 10)
  | 19 => .inr (some 11)
  | 20 => .inr (some 12)
  | 21 => .inr (some 13)
  | 22 => .inr (some 14)
  | 23 => .inr (some 15)
  | 24 => .inr (some 16)
  | 25 => .inr (some 17)
  | 26 => .inr (some 18)
  | 27 => .inr (some 19)
  | 28 => .inr (some 20)
  | 29 => .inl 0
  | 30 => .inl 0
  | 31 => .inl 0
  | 32 => .inl 0
  | 33 => .inl 0
  | 34 => .inl 0
  | 35 => .inl 0
  | 36 => .inl 0
  | 37 => .inl 0
  | 38 => .inl 0
  | 39 => .inl 0
  | 40 => .inr (some 21)
  | 41 => .inr (some 22)
  | 42 => .inl 0
  | 43 => .inl 0
  | 44 => .inr (some 23)
  | 45 => .inr (some 24)
  | 46 => .inr (some 25)
  | 47 => .inr (some 26)
  | 48 => .inl 0
  | 49 => .inr (some 27)
  | 50 => .inr (some 28)
  | 51 => .inr (some 29)
  | 52 => .inr (some 30)
  | 53 => .inr (some 31)
  | 54 => .inr (some 32)
  | 55 => .inr (some 33)
  | 56 => .inr (some 34)
  | 57 => .inr (some 35)
  | 58 => .inl 0
  | 59 => .inl 0
  | 60 => .inr (some 36)
  | 61 => .inr (some 37)
  | 62 => .inr (some 38)
  | 63 => .inl 0
  | 64 => .inr (some 39)
  | 65 => .inr (some 40)
  | 66 => .inr (some 41)
  | 67 => .inr (some 42)
  | _ => .inr (some 43)
def kdM : Nat → KD := fun j => match j with
  | 0 => .inl (4, 69, ftM)
  | 1 => .inr (1, 1620)
  | 2 => .inr (1, 1600)
  | 3 => .inr (0, 2)
  | 4 => .inr (0, 2)
  | 5 => .inr (0, 2)
  | 6 => .inr (0, 2)
  | 7 => .inr (0, 2)
  | 8 => .inr (0, 2)
  | 9 => .inr (0, 2)
  | 10 => .inr (0, 16)
  | 11 => .inr (0, 16)
  | 12 => .inr (2, 2)
  | 13 => .inr (2, 2)
  | 14 => .inr (2, 2)
  | 15 => .inr (3, 8)
  | 16 => .inr (0, 1120)
  | 17 => .inr (0, 1120)
  | 18 => .inr (0, 90)
  | 19 => .inr (0, 90)
  | 20 => .inr (0, 60)
  | 21 => .inr (0, 221)
  | 22 => .inr (0, 9061)
  | 23 => .inr (0, 100)
  | 24 => .inr (0, 4)
  | 25 => .inr (0, 4)
  | 26 => .inr (0, 12)
  | 27 => .inr (0, 4096)
  | 28 => .inr (0, 20480)
  | 29 => .inr (0, 65536)
  | 30 => .inr (0, 40)
  | 31 => .inr (0, 40)
  | 32 => .inr (0, 40)
  | 33 => .inr (0, 40)
  | 34 => .inr (0, 40)
  | 35 => .inr (0, 40)
  | 36 => .inr (0, 7)
  | 37 => .inr (0, 7)
  | 38 => .inr (0, 49)
  | 39 => .inr (0, 7)
  | 40 => .inr (0, 8)
  | 41 => .inr (0, 8)
  | 42 => .inr (0, 663)
  | _ => .inr (2, 3)
def knM : KN := fun j => if j ≤ 43 then some (kdM j) else none
theorem lm_0 : knM 0 = some (.inl (4, 69, ftM)) := rfl
theorem lm_1 : knM 1 = some (.inr (1, 1620)) := rfl -- tape
theorem lm_2 : knM 2 = some (.inr (1, 1600)) := rfl -- text
theorem lm_3 : knM 3 = some (.inr (0, 2)) := rfl -- wide
theorem lm_4 : knM 4 = some (.inr (0, 2)) := rfl -- firstRow
theorem lm_5 : knM 5 = some (.inr (0, 2)) := rfl -- hands
theorem lm_6 : knM 6 = some (.inr (0, 2)) := rfl -- units
theorem lm_7 : knM 7 = some (.inr (0, 2)) := rfl -- waxTold
theorem lm_8 : knM 8 = some (.inr (0, 2)) := rfl -- draw
theorem lm_9 : knM 9 = some (.inr (0, 2)) := rfl -- lines
theorem lm_10 : knM 10 = some (.inr (0, 16)) := rfl -- ruleFrom
theorem lm_11 : knM 11 = some (.inr (0, 16)) := rfl -- ruleTo
theorem lm_12 : knM 12 = some (.inr (2, 2)) := rfl -- hasFirst
theorem lm_13 : knM 13 = some (.inr (2, 2)) := rfl -- hasWax
theorem lm_14 : knM 14 = some (.inr (2, 2)) := rfl -- hasDraw
theorem lm_15 : knM 15 = some (.inr (3, 8)) := rfl -- hName
theorem lm_16 : knM 16 = some (.inr (0, 1120)) := rfl -- code
theorem lm_17 : knM 17 = some (.inr (0, 1120)) := rfl -- codeNumber
theorem lm_18 : knM 18 = some (.inr (0, 90)) := rfl -- eWhat
theorem lm_19 : knM 19 = some (.inr (0, 90)) := rfl -- eSign
theorem lm_20 : knM 20 = some (.inr (0, 60)) := rfl -- pile
theorem lm_21 : knM 21 = some (.inr (0, 221)) := rfl -- all
theorem lm_22 : knM 22 = some (.inr (0, 9061)) := rfl -- was
theorem lm_23 : knM 23 = some (.inr (0, 100)) := rfl -- drawn
theorem lm_24 : knM 24 = some (.inr (0, 4)) := rfl -- shareOf
theorem lm_25 : knM 25 = some (.inr (0, 4)) := rfl -- restOf
theorem lm_26 : knM 26 = some (.inr (0, 12)) := rfl -- laidRow
theorem lm_27 : knM 27 = some (.inr (0, 4096)) := rfl -- metAt
theorem lm_28 : knM 28 = some (.inr (0, 20480)) := rfl -- still
theorem lm_29 : knM 29 = some (.inr (0, 65536)) := rfl -- next
theorem lm_30 : knM 30 = some (.inr (0, 40)) := rfl -- fSort
theorem lm_31 : knM 31 = some (.inr (0, 40)) := rfl -- fOne
theorem lm_32 : knM 32 = some (.inr (0, 40)) := rfl -- fTwo
theorem lm_33 : knM 33 = some (.inr (0, 40)) := rfl -- fThree
theorem lm_34 : knM 34 = some (.inr (0, 40)) := rfl -- fTold
theorem lm_35 : knM 35 = some (.inr (0, 40)) := rfl -- fUntold
theorem lm_36 : knM 36 = some (.inr (0, 7)) := rfl -- treeRow
theorem lm_37 : knM 37 = some (.inr (0, 7)) := rfl -- from
theorem lm_38 : knM 38 = some (.inr (0, 49)) := rfl -- change
theorem lm_39 : knM 39 = some (.inr (0, 7)) := rfl -- clanOf
theorem lm_40 : knM 40 = some (.inr (0, 8)) := rfl -- side
theorem lm_41 : knM 41 = some (.inr (0, 8)) := rfl -- group
theorem lm_42 : knM 42 = some (.inr (0, 663)) := rfl -- boxAll
theorem lm_43 : knM 43 = some (.inr (2, 3)) := rfl -- isBoxed
theorem fm_0 (ad : Nat → Nat) (f : Nat → Int32) (g : Nat → Int64) (r : Nat → Option Nat) : fval ad ftM f g r 0 = .ref (ad 1) := rfl -- tape
theorem fm_1 (ad : Nat → Nat) (f : Nat → Int32) (g : Nat → Int64) (r : Nat → Option Nat) : fval ad ftM f g r 1 = .ref (ad 2) := rfl -- text
theorem fm_2 (ad : Nat → Nat) (f : Nat → Int32) (g : Nat → Int64) (r : Nat → Option Nat) : fval ad ftM f g r 2 = .int (f 2) := rfl -- taped
theorem fn_2 : ftM 2 = .inl 0 := rfl
theorem fm_3 (ad : Nat → Nat) (f : Nat → Int32) (g : Nat → Int64) (r : Nat → Option Nat) : fval ad ftM f g r 3 = .int (f 3) := rfl -- size
theorem fn_3 : ftM 3 = .inl 0 := rfl
theorem fm_4 (ad : Nat → Nat) (f : Nat → Int32) (g : Nat → Int64) (r : Nat → Option Nat) : fval ad ftM f g r 4 = .int (f 4) := rfl -- faultKind
theorem fn_4 : ftM 4 = .inl 0 := rfl
theorem fm_5 (ad : Nat → Nat) (f : Nat → Int32) (g : Nat → Int64) (r : Nat → Option Nat) : fval ad ftM f g r 5 = .int (f 5) := rfl -- faultPlace
theorem fn_5 : ftM 5 = .inl 0 := rfl
theorem fm_6 (ad : Nat → Nat) (f : Nat → Int32) (g : Nat → Int64) (r : Nat → Option Nat) : fval ad ftM f g r 6 = .int (f 6) := rfl -- at
theorem fn_6 : ftM 6 = .inl 0 := rfl
theorem fm_7 (ad : Nat → Nat) (f : Nat → Int32) (g : Nat → Int64) (r : Nat → Option Nat) : fval ad ftM f g r 7 = .int (f 7) := rfl -- end
theorem fn_7 : ftM 7 = .inl 0 := rfl
theorem fm_8 (ad : Nat → Nat) (f : Nat → Int32) (g : Nat → Int64) (r : Nat → Option Nat) : fval ad ftM f g r 8 = .int (f 8) := rfl -- token
theorem fn_8 : ftM 8 = .inl 0 := rfl
theorem fm_9 (ad : Nat → Nat) (f : Nat → Int32) (g : Nat → Int64) (r : Nat → Option Nat) : fval ad ftM f g r 9 = .int (f 9) := rfl -- number
theorem fn_9 : ftM 9 = .inl 0 := rfl
theorem fm_10 (ad : Nat → Nat) (f : Nat → Int32) (g : Nat → Int64) (r : Nat → Option Nat) : fval ad ftM f g r 10 = .long (g 10) := rfl -- name
theorem fn_10 : ftM 10 = .inl 1 := rfl
theorem fm_11 (ad : Nat → Nat) (f : Nat → Int32) (g : Nat → Int64) (r : Nat → Option Nat) : fval ad ftM f g r 11 = .ref (ad 3) := rfl -- wide
theorem fm_12 (ad : Nat → Nat) (f : Nat → Int32) (g : Nat → Int64) (r : Nat → Option Nat) : fval ad ftM f g r 12 = .ref (ad 4) := rfl -- firstRow
theorem fm_13 (ad : Nat → Nat) (f : Nat → Int32) (g : Nat → Int64) (r : Nat → Option Nat) : fval ad ftM f g r 13 = .ref (ad 5) := rfl -- hands
theorem fm_14 (ad : Nat → Nat) (f : Nat → Int32) (g : Nat → Int64) (r : Nat → Option Nat) : fval ad ftM f g r 14 = .ref (ad 6) := rfl -- units
theorem fm_15 (ad : Nat → Nat) (f : Nat → Int32) (g : Nat → Int64) (r : Nat → Option Nat) : fval ad ftM f g r 15 = .ref (ad 7) := rfl -- waxTold
theorem fm_16 (ad : Nat → Nat) (f : Nat → Int32) (g : Nat → Int64) (r : Nat → Option Nat) : fval ad ftM f g r 16 = .ref (ad 8) := rfl -- draw
theorem fm_17 (ad : Nat → Nat) (f : Nat → Int32) (g : Nat → Int64) (r : Nat → Option Nat) : fval ad ftM f g r 17 = .ref (ad 9) := rfl -- lines
theorem fm_18 (ad : Nat → Nat) (f : Nat → Int32) (g : Nat → Int64) (r : Nat → Option Nat) : fval ad ftM f g r 18 = .ref (ad 10) := rfl -- ruleFrom
theorem fm_19 (ad : Nat → Nat) (f : Nat → Int32) (g : Nat → Int64) (r : Nat → Option Nat) : fval ad ftM f g r 19 = .ref (ad 11) := rfl -- ruleTo
theorem fm_20 (ad : Nat → Nat) (f : Nat → Int32) (g : Nat → Int64) (r : Nat → Option Nat) : fval ad ftM f g r 20 = .ref (ad 12) := rfl -- hasFirst
theorem fm_21 (ad : Nat → Nat) (f : Nat → Int32) (g : Nat → Int64) (r : Nat → Option Nat) : fval ad ftM f g r 21 = .ref (ad 13) := rfl -- hasWax
theorem fm_22 (ad : Nat → Nat) (f : Nat → Int32) (g : Nat → Int64) (r : Nat → Option Nat) : fval ad ftM f g r 22 = .ref (ad 14) := rfl -- hasDraw
theorem fm_23 (ad : Nat → Nat) (f : Nat → Int32) (g : Nat → Int64) (r : Nat → Option Nat) : fval ad ftM f g r 23 = .ref (ad 15) := rfl -- hName
theorem fm_24 (ad : Nat → Nat) (f : Nat → Int32) (g : Nat → Int64) (r : Nat → Option Nat) : fval ad ftM f g r 24 = .ref (ad 16) := rfl -- code
theorem fm_25 (ad : Nat → Nat) (f : Nat → Int32) (g : Nat → Int64) (r : Nat → Option Nat) : fval ad ftM f g r 25 = .ref (ad 17) := rfl -- codeNumber
theorem fm_26 (ad : Nat → Nat) (f : Nat → Int32) (g : Nat → Int64) (r : Nat → Option Nat) : fval ad ftM f g r 26 = .ref (ad 18) := rfl -- eWhat
theorem fm_27 (ad : Nat → Nat) (f : Nat → Int32) (g : Nat → Int64) (r : Nat → Option Nat) : fval ad ftM f g r 27 = .ref (ad 19) := rfl -- eSign
theorem fm_28 (ad : Nat → Nat) (f : Nat → Int32) (g : Nat → Int64) (r : Nat → Option Nat) : fval ad ftM f g r 28 = .ref (ad 20) := rfl -- pile
theorem fm_29 (ad : Nat → Nat) (f : Nat → Int32) (g : Nat → Int64) (r : Nat → Option Nat) : fval ad ftM f g r 29 = .int (f 29) := rfl -- bank
theorem fn_29 : ftM 29 = .inl 0 := rfl
theorem fm_30 (ad : Nat → Nat) (f : Nat → Int32) (g : Nat → Int64) (r : Nat → Option Nat) : fval ad ftM f g r 30 = .int (f 30) := rfl -- rb
theorem fn_30 : ftM 30 = .inl 0 := rfl
theorem fm_31 (ad : Nat → Nat) (f : Nat → Int32) (g : Nat → Int64) (r : Nat → Option Nat) : fval ad ftM f g r 31 = .int (f 31) := rfl -- codes
theorem fn_31 : ftM 31 = .inl 0 := rfl
theorem fm_32 (ad : Nat → Nat) (f : Nat → Int32) (g : Nat → Int64) (r : Nat → Option Nat) : fval ad ftM f g r 32 = .int (f 32) := rfl -- within
theorem fn_32 : ftM 32 = .inl 0 := rfl
theorem fm_33 (ad : Nat → Nat) (f : Nat → Int32) (g : Nat → Int64) (r : Nat → Option Nat) : fval ad ftM f g r 33 = .int (f 33) := rfl -- piled
theorem fn_33 : ftM 33 = .inl 0 := rfl
theorem fm_34 (ad : Nat → Nat) (f : Nat → Int32) (g : Nat → Int64) (r : Nat → Option Nat) : fval ad ftM f g r 34 = .int (f 34) := rfl -- unitsInRule
theorem fn_34 : ftM 34 = .inl 0 := rfl
theorem fm_35 (ad : Nat → Nat) (f : Nat → Int32) (g : Nat → Int64) (r : Nat → Option Nat) : fval ad ftM f g r 35 = .int (f 35) := rfl -- askRow
theorem fn_35 : ftM 35 = .inl 0 := rfl
theorem fm_36 (ad : Nat → Nat) (f : Nat → Int32) (g : Nat → Int64) (r : Nat → Option Nat) : fval ad ftM f g r 36 = .int (f 36) := rfl -- askMark
theorem fn_36 : ftM 36 = .inl 0 := rfl
theorem fm_37 (ad : Nat → Nat) (f : Nat → Int32) (g : Nat → Int64) (r : Nat → Option Nat) : fval ad ftM f g r 37 = .int (f 37) := rfl -- askMany
theorem fn_37 : ftM 37 = .inl 0 := rfl
theorem fm_38 (ad : Nat → Nat) (f : Nat → Int32) (g : Nat → Int64) (r : Nat → Option Nat) : fval ad ftM f g r 38 = .int (f 38) := rfl -- askHeat
theorem fn_38 : ftM 38 = .inl 0 := rfl
theorem fm_39 (ad : Nat → Nat) (f : Nat → Int32) (g : Nat → Int64) (r : Nat → Option Nat) : fval ad ftM f g r 39 = .int (f 39) := rfl -- askDraw
theorem fn_39 : ftM 39 = .inl 0 := rfl
theorem fm_40 (ad : Nat → Nat) (f : Nat → Int32) (g : Nat → Int64) (r : Nat → Option Nat) : fval ad ftM f g r 40 = .ref (ad 21) := rfl -- all
theorem fm_41 (ad : Nat → Nat) (f : Nat → Int32) (g : Nat → Int64) (r : Nat → Option Nat) : fval ad ftM f g r 41 = .ref (ad 22) := rfl -- was
theorem fm_42 (ad : Nat → Nat) (f : Nat → Int32) (g : Nat → Int64) (r : Nat → Option Nat) : fval ad ftM f g r 42 = .int (f 42) := rfl -- acts
theorem fn_42 : ftM 42 = .inl 0 := rfl
theorem fm_43 (ad : Nat → Nat) (f : Nat → Int32) (g : Nat → Int64) (r : Nat → Option Nat) : fval ad ftM f g r 43 = .int (f 43) := rfl -- undone
theorem fn_43 : ftM 43 = .inl 0 := rfl
theorem fm_44 (ad : Nat → Nat) (f : Nat → Int32) (g : Nat → Int64) (r : Nat → Option Nat) : fval ad ftM f g r 44 = .ref (ad 23) := rfl -- drawn
theorem fm_45 (ad : Nat → Nat) (f : Nat → Int32) (g : Nat → Int64) (r : Nat → Option Nat) : fval ad ftM f g r 45 = .ref (ad 24) := rfl -- shareOf
theorem fm_46 (ad : Nat → Nat) (f : Nat → Int32) (g : Nat → Int64) (r : Nat → Option Nat) : fval ad ftM f g r 46 = .ref (ad 25) := rfl -- restOf
theorem fm_47 (ad : Nat → Nat) (f : Nat → Int32) (g : Nat → Int64) (r : Nat → Option Nat) : fval ad ftM f g r 47 = .ref (ad 26) := rfl -- laidRow
theorem fm_48 (ad : Nat → Nat) (f : Nat → Int32) (g : Nat → Int64) (r : Nat → Option Nat) : fval ad ftM f g r 48 = .int (f 48) := rfl -- laid
theorem fn_48 : ftM 48 = .inl 0 := rfl
theorem fm_49 (ad : Nat → Nat) (f : Nat → Int32) (g : Nat → Int64) (r : Nat → Option Nat) : fval ad ftM f g r 49 = .ref (ad 27) := rfl -- metAt
theorem fm_50 (ad : Nat → Nat) (f : Nat → Int32) (g : Nat → Int64) (r : Nat → Option Nat) : fval ad ftM f g r 50 = .ref (ad 28) := rfl -- still
theorem fm_51 (ad : Nat → Nat) (f : Nat → Int32) (g : Nat → Int64) (r : Nat → Option Nat) : fval ad ftM f g r 51 = .ref (ad 29) := rfl -- next
theorem fm_52 (ad : Nat → Nat) (f : Nat → Int32) (g : Nat → Int64) (r : Nat → Option Nat) : fval ad ftM f g r 52 = .ref (ad 30) := rfl -- fSort
theorem fm_53 (ad : Nat → Nat) (f : Nat → Int32) (g : Nat → Int64) (r : Nat → Option Nat) : fval ad ftM f g r 53 = .ref (ad 31) := rfl -- fOne
theorem fm_54 (ad : Nat → Nat) (f : Nat → Int32) (g : Nat → Int64) (r : Nat → Option Nat) : fval ad ftM f g r 54 = .ref (ad 32) := rfl -- fTwo
theorem fm_55 (ad : Nat → Nat) (f : Nat → Int32) (g : Nat → Int64) (r : Nat → Option Nat) : fval ad ftM f g r 55 = .ref (ad 33) := rfl -- fThree
theorem fm_56 (ad : Nat → Nat) (f : Nat → Int32) (g : Nat → Int64) (r : Nat → Option Nat) : fval ad ftM f g r 56 = .ref (ad 34) := rfl -- fTold
theorem fm_57 (ad : Nat → Nat) (f : Nat → Int32) (g : Nat → Int64) (r : Nat → Option Nat) : fval ad ftM f g r 57 = .ref (ad 35) := rfl -- fUntold
theorem fm_58 (ad : Nat → Nat) (f : Nat → Int32) (g : Nat → Int64) (r : Nat → Option Nat) : fval ad ftM f g r 58 = .int (f 58) := rfl -- facts
theorem fn_58 : ftM 58 = .inl 0 := rfl
theorem fm_59 (ad : Nat → Nat) (f : Nat → Int32) (g : Nat → Int64) (r : Nat → Option Nat) : fval ad ftM f g r 59 = .int (f 59) := rfl -- time
theorem fn_59 : ftM 59 = .inl 0 := rfl
theorem fm_60 (ad : Nat → Nat) (f : Nat → Int32) (g : Nat → Int64) (r : Nat → Option Nat) : fval ad ftM f g r 60 = .ref (ad 36) := rfl -- treeRow
theorem fm_61 (ad : Nat → Nat) (f : Nat → Int32) (g : Nat → Int64) (r : Nat → Option Nat) : fval ad ftM f g r 61 = .ref (ad 37) := rfl -- from
theorem fm_62 (ad : Nat → Nat) (f : Nat → Int32) (g : Nat → Int64) (r : Nat → Option Nat) : fval ad ftM f g r 62 = .ref (ad 38) := rfl -- change
theorem fm_63 (ad : Nat → Nat) (f : Nat → Int32) (g : Nat → Int64) (r : Nat → Option Nat) : fval ad ftM f g r 63 = .int (f 63) := rfl -- treeMany
theorem fn_63 : ftM 63 = .inl 0 := rfl
theorem fm_64 (ad : Nat → Nat) (f : Nat → Int32) (g : Nat → Int64) (r : Nat → Option Nat) : fval ad ftM f g r 64 = .ref (ad 39) := rfl -- clanOf
theorem fm_65 (ad : Nat → Nat) (f : Nat → Int32) (g : Nat → Int64) (r : Nat → Option Nat) : fval ad ftM f g r 65 = .ref (ad 40) := rfl -- side
theorem fm_66 (ad : Nat → Nat) (f : Nat → Int32) (g : Nat → Int64) (r : Nat → Option Nat) : fval ad ftM f g r 66 = .ref (ad 41) := rfl -- group
theorem fm_67 (ad : Nat → Nat) (f : Nat → Int32) (g : Nat → Int64) (r : Nat → Option Nat) : fval ad ftM f g r 67 = .ref (ad 42) := rfl -- boxAll
theorem fm_68 (ad : Nat → Nat) (f : Nat → Int32) (g : Nat → Int64) (r : Nat → Option Nat) : fval ad ftM f g r 68 = .ref (ad 43) := rfl -- isBoxed
theorem fa4_7 : FAcc RX4 7 4 69 0 (.array .byte) true := ⟨RX4, TX4, tyX4, rfl, by decide, in_X4, q1629, tyX4_ok, nmX4, rfl, rfl⟩
theorem fa4_13 : FAcc RX4 13 4 69 1 (.array .byte) true := ⟨RX4, TX4, tyX4, rfl, by decide, in_X4, q1630, tyX4_ok, nmX4, rfl, rfl⟩
theorem fa4_16 : FAcc RX4 16 4 69 5 .int false := ⟨RX4, TX4, tyX4, rfl, by decide, in_X4, q1634, tyX4_ok, nmX4, rfl, rfl⟩
theorem fa4_20 : FAcc RX4 20 4 69 11 (.array .int) true := ⟨RX4, TX4, tyX4, rfl, by decide, in_X4, q1640, tyX4_ok, nmX4, rfl, rfl⟩
theorem fa4_24 : FAcc RX4 24 4 69 12 (.array .int) true := ⟨RX4, TX4, tyX4, rfl, by decide, in_X4, q1641, tyX4_ok, nmX4, rfl, rfl⟩
theorem fa4_27 : FAcc RX4 27 4 69 13 (.array .int) true := ⟨RX4, TX4, tyX4, rfl, by decide, in_X4, q1642, tyX4_ok, nmX4, rfl, rfl⟩
theorem fa4_30 : FAcc RX4 30 4 69 14 (.array .int) true := ⟨RX4, TX4, tyX4, rfl, by decide, in_X4, q1643, tyX4_ok, nmX4, rfl, rfl⟩
theorem fa4_33 : FAcc RX4 33 4 69 15 (.array .int) true := ⟨RX4, TX4, tyX4, rfl, by decide, in_X4, q1644, tyX4_ok, nmX4, rfl, rfl⟩
theorem fa4_36 : FAcc RX4 36 4 69 16 (.array .int) true := ⟨RX4, TX4, tyX4, rfl, by decide, in_X4, q1645, tyX4_ok, nmX4, rfl, rfl⟩
theorem fa4_39 : FAcc RX4 39 4 69 17 (.array .int) true := ⟨RX4, TX4, tyX4, rfl, by decide, in_X4, q1646, tyX4_ok, nmX4, rfl, rfl⟩
theorem fa4_42 : FAcc RX4 42 4 69 18 (.array .int) true := ⟨RX4, TX4, tyX4, rfl, by decide, in_X4, q1647, tyX4_ok, nmX4, rfl, rfl⟩
theorem fa4_45 : FAcc RX4 45 4 69 19 (.array .int) true := ⟨RX4, TX4, tyX4, rfl, by decide, in_X4, q1648, tyX4_ok, nmX4, rfl, rfl⟩
theorem fa4_48 : FAcc RX4 48 4 69 20 (.array .boolean) true := ⟨RX4, TX4, tyX4, rfl, by decide, in_X4, q1649, tyX4_ok, nmX4, rfl, rfl⟩
theorem fa4_52 : FAcc RX4 52 4 69 21 (.array .boolean) true := ⟨RX4, TX4, tyX4, rfl, by decide, in_X4, q1650, tyX4_ok, nmX4, rfl, rfl⟩
theorem fa4_55 : FAcc RX4 55 4 69 22 (.array .boolean) true := ⟨RX4, TX4, tyX4, rfl, by decide, in_X4, q1651, tyX4_ok, nmX4, rfl, rfl⟩
theorem fa4_58 : FAcc RX4 58 4 69 23 (.array .long) true := ⟨RX4, TX4, tyX4, rfl, by decide, in_X4, q1652, tyX4_ok, nmX4, rfl, rfl⟩
theorem fa4_62 : FAcc RX4 62 4 69 24 (.array .int) true := ⟨RX4, TX4, tyX4, rfl, by decide, in_X4, q1653, tyX4_ok, nmX4, rfl, rfl⟩
theorem fa4_65 : FAcc RX4 65 4 69 25 (.array .int) true := ⟨RX4, TX4, tyX4, rfl, by decide, in_X4, q1654, tyX4_ok, nmX4, rfl, rfl⟩
theorem fa4_68 : FAcc RX4 68 4 69 26 (.array .int) true := ⟨RX4, TX4, tyX4, rfl, by decide, in_X4, q1655, tyX4_ok, nmX4, rfl, rfl⟩
theorem fa4_71 : FAcc RX4 71 4 69 27 (.array .int) true := ⟨RX4, TX4, tyX4, rfl, by decide, in_X4, q1656, tyX4_ok, nmX4, rfl, rfl⟩
theorem fa4_74 : FAcc RX4 74 4 69 28 (.array .int) true := ⟨RX4, TX4, tyX4, rfl, by decide, in_X4, q1657, tyX4_ok, nmX4, rfl, rfl⟩
theorem fa4_77 : FAcc RX4 77 4 69 40 (.array .int) true := ⟨RX4, TX4, tyX4, rfl, by decide, in_X4, q1669, tyX4_ok, nmX4, rfl, rfl⟩
theorem fa4_80 : FAcc RX4 80 4 69 41 (.array .int) true := ⟨RX4, TX4, tyX4, rfl, by decide, in_X4, q1670, tyX4_ok, nmX4, rfl, rfl⟩
theorem fa4_83 : FAcc RX4 83 4 69 44 (.array .int) true := ⟨RX4, TX4, tyX4, rfl, by decide, in_X4, q1673, tyX4_ok, nmX4, rfl, rfl⟩
theorem fa4_86 : FAcc RX4 86 4 69 45 (.array .int) true := ⟨RX4, TX4, tyX4, rfl, by decide, in_X4, q1674, tyX4_ok, nmX4, rfl, rfl⟩
theorem fa4_89 : FAcc RX4 89 4 69 46 (.array .int) true := ⟨RX4, TX4, tyX4, rfl, by decide, in_X4, q1675, tyX4_ok, nmX4, rfl, rfl⟩
theorem fa4_92 : FAcc RX4 92 4 69 47 (.array .int) true := ⟨RX4, TX4, tyX4, rfl, by decide, in_X4, q1676, tyX4_ok, nmX4, rfl, rfl⟩
theorem fa4_95 : FAcc RX4 95 4 69 49 (.array .int) true := ⟨RX4, TX4, tyX4, rfl, by decide, in_X4, q1678, tyX4_ok, nmX4, rfl, rfl⟩
theorem fa4_98 : FAcc RX4 98 4 69 50 (.array .int) true := ⟨RX4, TX4, tyX4, rfl, by decide, in_X4, q1679, tyX4_ok, nmX4, rfl, rfl⟩
theorem fa4_102 : FAcc RX4 102 4 69 51 (.array .int) true := ⟨RX4, TX4, tyX4, rfl, by decide, in_X4, q1680, tyX4_ok, nmX4, rfl, rfl⟩
theorem fa4_105 : FAcc RX4 105 4 69 52 (.array .int) true := ⟨RX4, TX4, tyX4, rfl, by decide, in_X4, q1681, tyX4_ok, nmX4, rfl, rfl⟩
theorem fa4_108 : FAcc RX4 108 4 69 53 (.array .int) true := ⟨RX4, TX4, tyX4, rfl, by decide, in_X4, q1682, tyX4_ok, nmX4, rfl, rfl⟩
theorem fa4_111 : FAcc RX4 111 4 69 54 (.array .int) true := ⟨RX4, TX4, tyX4, rfl, by decide, in_X4, q1683, tyX4_ok, nmX4, rfl, rfl⟩
theorem fa4_114 : FAcc RX4 114 4 69 55 (.array .int) true := ⟨RX4, TX4, tyX4, rfl, by decide, in_X4, q1684, tyX4_ok, nmX4, rfl, rfl⟩
theorem fa4_117 : FAcc RX4 117 4 69 56 (.array .int) true := ⟨RX4, TX4, tyX4, rfl, by decide, in_X4, q1685, tyX4_ok, nmX4, rfl, rfl⟩
theorem fa4_120 : FAcc RX4 120 4 69 57 (.array .int) true := ⟨RX4, TX4, tyX4, rfl, by decide, in_X4, q1686, tyX4_ok, nmX4, rfl, rfl⟩
theorem fa4_123 : FAcc RX4 123 4 69 60 (.array .int) true := ⟨RX4, TX4, tyX4, rfl, by decide, in_X4, q1689, tyX4_ok, nmX4, rfl, rfl⟩
theorem fa4_126 : FAcc RX4 126 4 69 61 (.array .int) true := ⟨RX4, TX4, tyX4, rfl, by decide, in_X4, q1690, tyX4_ok, nmX4, rfl, rfl⟩
theorem fa4_129 : FAcc RX4 129 4 69 62 (.array .int) true := ⟨RX4, TX4, tyX4, rfl, by decide, in_X4, q1691, tyX4_ok, nmX4, rfl, rfl⟩
theorem fa4_132 : FAcc RX4 132 4 69 64 (.array .int) true := ⟨RX4, TX4, tyX4, rfl, by decide, in_X4, q1693, tyX4_ok, nmX4, rfl, rfl⟩
theorem fa4_135 : FAcc RX4 135 4 69 65 (.array .int) true := ⟨RX4, TX4, tyX4, rfl, by decide, in_X4, q1694, tyX4_ok, nmX4, rfl, rfl⟩
theorem fa4_138 : FAcc RX4 138 4 69 66 (.array .int) true := ⟨RX4, TX4, tyX4, rfl, by decide, in_X4, q1695, tyX4_ok, nmX4, rfl, rfl⟩
theorem fa4_141 : FAcc RX4 141 4 69 67 (.array .int) true := ⟨RX4, TX4, tyX4, rfl, by decide, in_X4, q1696, tyX4_ok, nmX4, rfl, rfl⟩
theorem fa4_144 : FAcc RX4 144 4 69 68 (.array .boolean) true := ⟨RX4, TX4, tyX4, rfl, by decide, in_X4, q1697, tyX4_ok, nmX4, rfl, rfl⟩
theorem fa4_153 : FAcc RX4 153 4 69 3 .int false := ⟨RX4, TX4, tyX4, rfl, by decide, in_X4, q1632, tyX4_ok, nmX4, rfl, rfl⟩
theorem fa4_156 : FAcc RX4 156 4 69 4 .int false := ⟨RX4, TX4, tyX4, rfl, by decide, in_X4, q1633, tyX4_ok, nmX4, rfl, rfl⟩
theorem fa4_193 : FAcc RX4 193 4 69 7 .int false := ⟨RX4, TX4, tyX4, rfl, by decide, in_X4, q1636, tyX4_ok, nmX4, rfl, rfl⟩
theorem fa4_196 : FAcc RX4 196 4 69 6 .int false := ⟨RX4, TX4, tyX4, rfl, by decide, in_X4, q1635, tyX4_ok, nmX4, rfl, rfl⟩
theorem fa4_203 : FAcc RX4 203 4 69 8 .int false := ⟨RX4, TX4, tyX4, rfl, by decide, in_X4, q1637, tyX4_ok, nmX4, rfl, rfl⟩
theorem fa4_210 : FAcc RX4 210 4 69 10 .long false := ⟨RX4, TX4, tyX4, rfl, by decide, in_X4, q1639, tyX4_ok, nmX4, rfl, rfl⟩
theorem fa4_221 : FAcc RX4 221 4 69 9 .int false := ⟨RX4, TX4, tyX4, rfl, by decide, in_X4, q1638, tyX4_ok, nmX4, rfl, rfl⟩
theorem fa4_241 : FAcc RX4 241 4 69 30 .int false := ⟨RX4, TX4, tyX4, rfl, by decide, in_X4, q1659, tyX4_ok, nmX4, rfl, rfl⟩
theorem fa4_244 : FAcc RX4 244 4 69 31 .int false := ⟨RX4, TX4, tyX4, rfl, by decide, in_X4, q1660, tyX4_ok, nmX4, rfl, rfl⟩
theorem fa4_247 : FAcc RX4 247 4 69 2 .int false := ⟨RX4, TX4, tyX4, rfl, by decide, in_X4, q1631, tyX4_ok, nmX4, rfl, rfl⟩
theorem fa4_250 : FAcc RX4 250 4 69 29 .int false := ⟨RX4, TX4, tyX4, rfl, by decide, in_X4, q1658, tyX4_ok, nmX4, rfl, rfl⟩
theorem fa4_287 : FAcc RX4 287 4 69 34 .int false := ⟨RX4, TX4, tyX4, rfl, by decide, in_X4, q1663, tyX4_ok, nmX4, rfl, rfl⟩
theorem fa4_293 : FAcc RX4 293 4 69 33 .int false := ⟨RX4, TX4, tyX4, rfl, by decide, in_X4, q1662, tyX4_ok, nmX4, rfl, rfl⟩
theorem fa4_296 : FAcc RX4 296 4 69 32 .int false := ⟨RX4, TX4, tyX4, rfl, by decide, in_X4, q1661, tyX4_ok, nmX4, rfl, rfl⟩
theorem fa4_320 : FAcc RX4 320 4 69 36 .int false := ⟨RX4, TX4, tyX4, rfl, by decide, in_X4, q1665, tyX4_ok, nmX4, rfl, rfl⟩
theorem fa4_323 : FAcc RX4 323 4 69 35 .int false := ⟨RX4, TX4, tyX4, rfl, by decide, in_X4, q1664, tyX4_ok, nmX4, rfl, rfl⟩
theorem fa4_326 : FAcc RX4 326 4 69 37 .int false := ⟨RX4, TX4, tyX4, rfl, by decide, in_X4, q1666, tyX4_ok, nmX4, rfl, rfl⟩
theorem fa4_329 : FAcc RX4 329 4 69 38 .int false := ⟨RX4, TX4, tyX4, rfl, by decide, in_X4, q1667, tyX4_ok, nmX4, rfl, rfl⟩
theorem fa4_332 : FAcc RX4 332 4 69 39 .int false := ⟨RX4, TX4, tyX4, rfl, by decide, in_X4, q1668, tyX4_ok, nmX4, rfl, rfl⟩
theorem fa4_371 : FAcc RX4 371 4 69 42 .int false := ⟨RX4, TX4, tyX4, rfl, by decide, in_X4, q1671, tyX4_ok, nmX4, rfl, rfl⟩
theorem fa4_374 : FAcc RX4 374 4 69 43 .int false := ⟨RX4, TX4, tyX4, rfl, by decide, in_X4, q1672, tyX4_ok, nmX4, rfl, rfl⟩
theorem fa4_377 : FAcc RX4 377 4 69 58 .int false := ⟨RX4, TX4, tyX4, rfl, by decide, in_X4, q1687, tyX4_ok, nmX4, rfl, rfl⟩
theorem fa4_380 : FAcc RX4 380 4 69 48 .int false := ⟨RX4, TX4, tyX4, rfl, by decide, in_X4, q1677, tyX4_ok, nmX4, rfl, rfl⟩
theorem fa4_420 : FAcc RX4 420 4 69 59 .int false := ⟨RX4, TX4, tyX4, rfl, by decide, in_X4, q1688, tyX4_ok, nmX4, rfl, rfl⟩
theorem fa4_427 : FAcc RX4 427 4 69 63 .int false := ⟨RX4, TX4, tyX4, rfl, by decide, in_X4, q1692, tyX4_ok, nmX4, rfl, rfl⟩
theorem gw4_147 : GoodIn lw_all (wsV RX4 147 RX4 yX4_clearBank (ws_ yX4_clearBank cX4_clearBank 1 none)) := lw_V q1621 q1623 qs57 q116 q1624
theorem gw4_150 : GoodIn lw_all (wsV RX4 150 RX4 yX4_startAnew (ws_ yX4_startAnew cX4_startAnew 2 none)) := lw_V q1625 q1627 qs58 q116 q1628
theorem gw4_199 : GoodIn lw_all (wsV RX4 199 RX4 yX4_sign (ws_ yX4_sign cX4_sign 2 (some .int))) := lw_V q1846 q1848 qs60 q116 q1849
theorem gw4_206 : GoodIn lw_all (va_wsS RX4 206 yX4_isLetter (ws_ yX4_isLetter cX4_isLetter 1 (some .boolean))) := lw_S q1850 q1851 q116 q1852
theorem gw4_214 : GoodIn lw_all (va_wsS RX4 214 yX4_isKept (ws_ yX4_isKept cX4_isKept 3 (some .boolean))) := lw_S q1853 q1854 q116 q1855
theorem gw4_218 : GoodIn lw_all (va_wsS RX4 218 yX4_isDigit (ws_ yX4_isDigit cX4_isDigit 1 (some .boolean))) := lw_S q1873 q1874 q116 q1875
theorem gw4_224 : GoodIn lw_all (va_wsS RX4 224 yX4_isSign (ws_ yX4_isSign cX4_isSign 1 (some .boolean))) := lw_S q1876 q1877 q116 q1878
theorem gw4_227 : GoodIn lw_all (wsV RX4 227 RX4 yX4_fails (ws_ yX4_fails cX4_fails 3 none)) := lw_V q1899 q1901 qs66 q116 q1902
theorem gw4_231 : GoodIn lw_all (wsV RX4 231 RX4 yX4_isGood (ws_ yX4_isGood cX4_isGood 1 (some .boolean))) := lw_V q1879 q1881 qs61 q116 q1882
theorem gw4_235 : GoodIn lw_all (wsV RX4 235 RX4 yX4_goOn (ws_ yX4_goOn cX4_goOn 3 none)) := lw_V q1842 q1844 qs59 q116 q1845
theorem gw4_238 : GoodIn lw_all (wsV RX4 238 RX4 yX4_misplaced (ws_ yX4_misplaced cX4_misplaced 1 none)) := lw_V q1895 q1897 qs65 q116 q1898
theorem gw4_253 : GoodIn lw_all (wsV RX4 253 RX4 yX4_readLine (ws_ yX4_readLine cX4_readLine 3 none)) := lw_V q1883 q1885 qs62 q116 q1886
theorem gw4_256 : GoodIn lw_all (wsV RX4 256 RX4 yX4_isWord (ws_ yX4_isWord cX4_isWord 3 (some .boolean))) := lw_V q1891 q1893 qs64 q116 q1894
theorem gw4_259 : GoodIn lw_all (wsV RX4 259 RX4 yX4_isFull (ws_ yX4_isFull cX4_isFull 1 (some .boolean))) := lw_V q1887 q1889 qs63 q116 q1890
theorem gw4_262 : GoodIn lw_all (wsV RX4 262 RX4 yX4_numeral (ws_ yX4_numeral cX4_numeral 4 (some .int))) := lw_V q1903 q1905 qs67 q116 q1906
theorem gw4_266 : GoodIn lw_all (wsV RX4 266 RX4 yX4_readFirst (ws_ yX4_readFirst cX4_readFirst 4 none)) := lw_V q1907 q1909 qs68 q116 q1910
theorem gw4_269 : GoodIn lw_all (wsV RX4 269 RX4 yX4_readHand (ws_ yX4_readHand cX4_readHand 2 none)) := lw_V q1911 q1913 qs69 q116 q1914
theorem gw4_272 : GoodIn lw_all (wsV RX4 272 RX4 yX4_isSignHere (ws_ yX4_isSignHere cX4_isSignHere 2 (some .boolean))) := lw_V q1939 q1941 qs76 q116 q1942
theorem gw4_275 : GoodIn lw_all (wsV RX4 275 RX4 yX4_must (ws_ yX4_must cX4_must 2 none)) := lw_V q1919 q1921 qs71 q116 q1922
theorem gw4_279 : GoodIn lw_all (wsV RX4 279 RX4 yX4_handHere (ws_ yX4_handHere cX4_handHere 2 (some .int))) := lw_V q1915 q1917 qs70 q116 q1918
theorem gw4_283 : GoodIn lw_all (wsV RX4 283 RX4 yX4_readRule (ws_ yX4_readRule cX4_readRule 2 none)) := lw_V q1923 q1925 qs72 q116 q1926
theorem gw4_290 : GoodIn lw_all (wsV RX4 290 RX4 yX4_e (ws_ yX4_e cX4_e 2 none)) := lw_V q1927 q1929 qs73 q116 q1930
theorem gw4_299 : GoodIn lw_all (wsV RX4 299 RX4 yX4_pushE (ws_ yX4_pushE cX4_pushE 3 none)) := lw_V q1931 q1933 qs74 q116 q1934
theorem gw4_302 : GoodIn lw_all (wsV RX4 302 RX4 yX4_unit (ws_ yX4_unit cX4_unit 7 (some .boolean))) := lw_V q1935 q1937 qs75 q116 q1938
theorem gw4_305 : GoodIn lw_all (wsV RX4 305 RX4 yX4_behindUnit (ws_ yX4_behindUnit cX4_behindUnit 2 (some .boolean))) := lw_V q1951 q1953 qs79 q116 q1954
theorem gw4_308 : GoodIn lw_all (wsV RX4 308 RX4 yX4_wordHere (ws_ yX4_wordHere cX4_wordHere 1 (some .int))) := lw_V q1943 q1945 qs77 q116 q1946
theorem gw4_311 : GoodIn lw_all (wsV RX4 311 RX4 yX4_emit (ws_ yX4_emit cX4_emit 3 none)) := lw_V q1947 q1949 qs78 q116 q1950
theorem gw4_314 : GoodIn lw_all (wsV RX4 314 RX4 yX4_rankHere (ws_ yX4_rankHere cX4_rankHere 1 (some .int))) := lw_V q1955 q1957 qs80 q116 q1958
theorem gw4_317 : GoodIn lw_all (wsV RX4 317 RX4 yX4_isCompared (ws_ yX4_isCompared cX4_isCompared 2 (some .boolean))) := lw_V q1959 q1961 qs81 q116 q1962
theorem gw4_335 : GoodIn lw_all (wsV RX4 335 RX4 yX4_asked (ws_ yX4_asked cX4_asked 3 (some .int))) := lw_V q2008 q2010 qs88 q116 q2011
theorem gw4_338 : GoodIn lw_all (va_wsS RX4 338 yX4_two (ws_ yX4_two cX4_two 3 (some .int))) := lw_S q2012 q2013 q116 q2014
theorem gw4_342 : GoodIn lw_all (wsV RX4 342 RX4 yX4_width (ws_ yX4_width cX4_width 1 (some .int))) := lw_V q1975 q1977 qs83 q116 q1978
theorem gw4_345 : GoodIn lw_all (va_wsS RX4 345 yX4_isIn (ws_ yX4_isIn cX4_isIn 3 (some .boolean))) := lw_S q1991 q1992 q116 q1993
theorem gw4_349 : GoodIn lw_all (wsV RX4 349 RX4 yX4_turnedRow (ws_ yX4_turnedRow cX4_turnedRow 4 (some .int))) := lw_V q1979 q1981 qs84 q116 q1982
theorem gw4_352 : GoodIn lw_all (va_wsS RX4 352 yX4_bitsOf (ws_ yX4_bitsOf cX4_bitsOf 3 (some .int))) := lw_S q2001 q2002 q116 q2003
theorem gw4_355 : GoodIn lw_all (wsV RX4 355 RX4 yX4_comes (ws_ yX4_comes cX4_comes 5 (some .int))) := lw_V q2004 q2006 qs87 q116 q2007
theorem gw4_358 : GoodIn lw_all (wsV RX4 358 RX4 yX4_isRow (ws_ yX4_isRow cX4_isRow 2 (some .boolean))) := lw_V q1971 q1973 qs82 q116 q1974
theorem gw4_361 : GoodIn lw_all (wsV RX4 361 RX4 yX4_isHand (ws_ yX4_isHand cX4_isHand 2 (some .boolean))) := lw_V q1987 q1989 qs85 q116 q1990
theorem gw4_364 : GoodIn lw_all (va_wsS RX4 364 yX4_isHeat (ws_ yX4_isHeat cX4_isHeat 1 (some .boolean))) := lw_S q1994 q1995 q116 q1996
theorem gw4_367 : GoodIn lw_all (wsV RX4 367 RX4 yX4_castOf (ws_ yX4_castOf cX4_castOf 9 (some .int))) := lw_V q1997 q1999 qs86 q116 q2000
theorem gw4_383 : GoodIn lw_all (wsV RX4 383 RX4 yX4_isSeal (ws_ yX4_isSeal cX4_isSeal 2 (some .boolean))) := lw_V q2019 q2021 qs89 q116 q2022
theorem gw4_386 : GoodIn lw_all (wsV RX4 386 RX4 yX4_deep (ws_ yX4_deep cX4_deep 4 (some .int))) := lw_V q2023 q2025 qs90 q116 q2026
theorem gw4_389 : GoodIn lw_all (wsV RX4 389 RX4 yX4_keepAct (ws_ yX4_keepAct cX4_keepAct 2 none)) := lw_V q2039 q2041 qs91 q116 q2042
theorem gw4_392 : GoodIn lw_all (wsV RX4 392 RX4 yX4_rowOf (ws_ yX4_rowOf cX4_rowOf 2 (some .int))) := lw_V q2043 q2045 qs92 q116 q2046
theorem gw4_395 : GoodIn lw_all (wsV RX4 395 RX4 yX4_exchange (ws_ yX4_exchange cX4_exchange 3 none)) := lw_V q2063 q2065 qs93 q116 q2066
theorem gw4_398 : GoodIn lw_all (wsV RX4 398 RX4 yX4_canCast (ws_ yX4_canCast cX4_canCast 4 (some .boolean))) := lw_V q2091 q2093 qs94 q116 q2094
theorem gw4_401 : GoodIn lw_all (wsV RX4 401 RX4 yX4_luckOf (ws_ yX4_luckOf cX4_luckOf 7 (some .int))) := lw_V q2095 q2097 qs95 q116 q2098
theorem gw4_404 : GoodIn lw_all (wsV RX4 404 RX4 yX4_kinOf (ws_ yX4_kinOf cX4_kinOf 5 (some .int))) := lw_V q2111 q2113 qs96 q116 q2114
theorem gw4_407 : GoodIn lw_all (wsV RX4 407 RX4 yX4_layShares (ws_ yX4_layShares cX4_layShares 8 none)) := lw_V q2123 q2125 qs97 q116 q2126
theorem gw4_410 : GoodIn lw_all (wsV RX4 410 RX4 yX4_doTell (ws_ yX4_doTell cX4_doTell 4 (some .boolean))) := lw_V q2135 q2137 qs98 q116 q2138
theorem gw4_413 : GoodIn lw_all (wsV RX4 413 RX4 yX4_ways (ws_ yX4_ways cX4_ways 1 (some .int))) := lw_V q2175 q2177 qs100 q116 q2178
theorem gw4_417 : GoodIn lw_all (wsV RX4 417 RX4 yX4_layWays (ws_ yX4_layWays cX4_layWays 8 none)) := lw_V q2171 q2173 qs99 q116 q2174
theorem gw4_423 : GoodIn lw_all (wsV RX4 423 RX4 yX4_fact (ws_ yX4_fact cX4_fact 5 (some .int))) := lw_V q2184 q2186 qs101 q116 q2187
theorem gw4_430 : GoodIn lw_all (wsV RX4 430 RX4 yX4_counts (ws_ yX4_counts cX4_counts 4 (some .boolean))) := lw_V q2217 q2219 qs103 q116 q2220
theorem gw4_433 : GoodIn lw_all (wsV RX4 433 RX4 yX4_laySamples (ws_ yX4_laySamples cX4_laySamples 5 none)) := lw_V q2213 q2215 qs102 q116 q2216
theorem gw4_436 : GoodIn lw_all (wsV RX4 436 RX4 yX4_changesOf (ws_ yX4_changesOf cX4_changesOf 8 (some .int))) := lw_V q2221 q2223 qs104 q116 q2224
theorem gw4_439 : GoodIn lw_all (wsV RX4 439 RX4 yX4_layClans (ws_ yX4_layClans cX4_layClans 7 none)) := lw_V q2233 q2235 qs105 q116 q2236
theorem gw4_442 : GoodIn lw_all (wsV RX4 442 RX4 yX4_isFalse (ws_ yX4_isFalse cX4_isFalse 2 (some .boolean))) := lw_V q2245 q2247 qs106 q116 q2248
theorem gw4_445 : GoodIn lw_all (wsV RX4 445 RX4 yX4_layLinks (ws_ yX4_layLinks cX4_layLinks 8 (some .boolean))) := lw_V q2257 q2259 qs107 q116 q2260
