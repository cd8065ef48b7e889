set_option maxRecDepth 100000
theorem xbp_9 : (Int8.ofInt 9).toInt32 = 9 := by decide
theorem xbp_12 : (Int8.ofInt 12).toInt32 = 12 := by decide
theorem xbp_39 : (Int8.ofInt 39).toInt32 = 39 := by decide
theorem xbp_71 : (Int8.ofInt 71).toInt32 = 71 := by decide
theorem xbp_99 : (Int8.ofInt 99).toInt32 = 99 := by decide
theorem xbp_100 : (Int8.ofInt 100).toInt32 = 100 := by decide
theorem xsp_137 : (Int16.ofInt 137).toInt32 = 137 := by decide
theorem xsp_999 : (Int16.ofInt 999).toInt32 = 999 := by decide
theorem xsp_1000 : (Int16.ofInt 1000).toInt32 = 1000 := by decide
theorem xvin_0_40 : vp_in 0 40 := by unfold vp_in; decide
theorem xvin_0_100 : vp_in 0 100 := by unfold vp_in; decide
theorem xvin_39_40 : vp_in 39 40 := by unfold vp_in; decide
theorem fxX0_103_X0 : FAcc RX0 103 0 31 1 .int false := ⟨RX0, TX0, tyX0, rfl, by decide, in_X0, q330, tyX0_ok, nmX0, rfl, rfl⟩
theorem fxX0_115_X0 : FAcc RX0 115 0 31 9 .int false := ⟨RX0, TX0, tyX0, rfl, by decide, in_X0, q340, tyX0_ok, nmX0, rfl, rfl⟩
theorem fxX0_118_X0 : FAcc RX0 118 0 31 10 .int false := ⟨RX0, TX0, tyX0, rfl, by decide, in_X0, q341, tyX0_ok, nmX0, rfl, rfl⟩
theorem fxX0_132_X0 : FAcc RX0 132 0 31 2 .int false := ⟨RX0, TX0, tyX0, rfl, by decide, in_X0, q331, tyX0_ok, nmX0, rfl, rfl⟩
theorem fxX0_13_X0 : FAcc RX0 13 0 31 3 .int false := ⟨RX0, TX0, tyX0, rfl, by decide, in_X0, q332, tyX0_ok, nmX0, rfl, rfl⟩
theorem fxX0_142_X1 : FAcc RX0 142 1 7 0 (.object "java/util/ArrayList") true := ⟨RX1, TX1, tyX1, rfl, by decide, in_X1, q227, tyX1_ok, nmX1, rfl, rfl⟩
theorem fxX0_147_X1 : FAcc RX0 147 1 7 2 .int false := ⟨RX1, TX1, tyX1, rfl, by decide, in_X1, q231, tyX1_ok, nmX1, rfl, rfl⟩
theorem fxX0_154_X3 : FAcc RX0 154 3 12 7 .int false := ⟨RX3, TX3, tyX3, rfl, by decide, in_X3, q281, tyX3_ok, nmX3, rfl, rfl⟩
theorem fxX0_164_X3 : FAcc RX0 164 3 12 0 (.array .int) true := ⟨RX3, TX3, tyX3, rfl, by decide, in_X3, q265, tyX3_ok, nmX3, rfl, rfl⟩
theorem fxX0_167_X3 : FAcc RX0 167 3 12 1 (.array .int) true := ⟨RX3, TX3, tyX3, rfl, by decide, in_X3, q267, tyX3_ok, nmX3, rfl, rfl⟩
theorem fxX0_170_X3 : FAcc RX0 170 3 12 2 (.array .int) true := ⟨RX3, TX3, tyX3, rfl, by decide, in_X3, q269, tyX3_ok, nmX3, rfl, rfl⟩
theorem fxX0_173_X3 : FAcc RX0 173 3 12 3 (.array .int) true := ⟨RX3, TX3, tyX3, rfl, by decide, in_X3, q272, tyX3_ok, nmX3, rfl, rfl⟩
theorem fxX0_180_X3 : FAcc RX0 180 3 12 8 .int false := ⟨RX3, TX3, tyX3, rfl, by decide, in_X3, q283, tyX3_ok, nmX3, rfl, rfl⟩
theorem fxX0_183_X3 : FAcc RX0 183 3 12 4 (.array .int) true := ⟨RX3, TX3, tyX3, rfl, by decide, in_X3, q274, tyX3_ok, nmX3, rfl, rfl⟩
theorem fxX0_186_X3 : FAcc RX0 186 3 12 5 (.array .int) true := ⟨RX3, TX3, tyX3, rfl, by decide, in_X3, q276, tyX3_ok, nmX3, rfl, rfl⟩
theorem fxX0_189_X3 : FAcc RX0 189 3 12 6 (.array .int) true := ⟨RX3, TX3, tyX3, rfl, by decide, in_X3, q278, tyX3_ok, nmX3, rfl, rfl⟩
theorem fxX0_197_X3 : FAcc RX0 197 3 12 10 .int false := ⟨RX3, TX3, tyX3, rfl, by decide, in_X3, q287, tyX3_ok, nmX3, rfl, rfl⟩
theorem fxX0_20_X0 : FAcc RX0 20 0 31 4 (.object "SealCasts$Book") false := ⟨RX0, TX0, tyX0, rfl, by decide, in_X0, q334, tyX0_ok, nmX0, rfl, rfl⟩
theorem fxX0_220_X3 : FAcc RX0 220 3 12 9 .int false := ⟨RX3, TX3, tyX3, rfl, by decide, in_X3, q285, tyX3_ok, nmX3, rfl, rfl⟩
theorem fxX0_226_X3 : FAcc RX0 226 3 12 11 .int false := ⟨RX3, TX3, tyX3, rfl, by decide, in_X3, q289, tyX3_ok, nmX3, rfl, rfl⟩
theorem fxX0_31_X0 : FAcc RX0 31 0 31 5 (.object "SealCasts$Chest") true := ⟨RX0, TX0, tyX0, rfl, by decide, in_X0, q336, tyX0_ok, nmX0, rfl, rfl⟩
theorem fxX0_35_X0 : FAcc RX0 35 0 31 6 (.object "SealCasts$Chest") true := ⟨RX0, TX0, tyX0, rfl, by decide, in_X0, q337, tyX0_ok, nmX0, rfl, rfl⟩
theorem fxX0_38_X0 : FAcc RX0 38 0 31 8 (.array (.object "SealCasts$Chest")) true := ⟨RX0, TX0, tyX0, rfl, by decide, in_X0, q339, tyX0_ok, nmX0, rfl, rfl⟩
theorem fxX0_42_X0 : FAcc RX0 42 0 31 11 (.array .int) true := ⟨RX0, TX0, tyX0, rfl, by decide, in_X0, q342, tyX0_ok, nmX0, rfl, rfl⟩
theorem gxX0_138 : GoodIn lw_all (wsV RX0 138 RX0 yX0_hands (ws_ yX0_hands cX0_hands 1 (some .int))) := lw_V q1082 q1084 qs28 q109 q1085
theorem gxX0_144 : GoodIn lw_all (wsV RX0 144 RJ2 yJ2_size (ws_ yJ2_size cJ2_size 1 (some .int))) := lw_V q1086 q803 q804 q113 q805
theorem gxX0_150 : GoodIn lw_all (va_wsS RX0 150 yX0_isIn (ws_ yX0_isIn cX0_isIn 3 (some .boolean))) := lw_S q1099 q1100 q109 q1101
theorem gxX0_157 : GoodIn lw_all (wsV RX0 157 RX0 yX0_rows (ws_ yX0_rows cX0_rows 1 (some .int))) := lw_V q1118 q1120 qs31 q109 q1121
theorem gxX0_160 : GoodIn lw_all (wsV RX0 160 RX0 yX0_isSeal (ws_ yX0_isSeal cX0_isSeal 2 (some .boolean))) := lw_V q1095 q1097 qs29 q109 q1098
theorem gxX0_176 : GoodIn lw_all (wsV RX0 176 RX3 yX3_castsFrom (ws_ yX3_castsFrom cX3_castsFrom 4 (some .int))) := lw_V q1102 q1103 q1104 q115 q1105
theorem gxX0_192 : GoodIn lw_all (wsV RX0 192 RX0 yX0_isRow (ws_ yX0_isRow cX0_isRow 2 (some .boolean))) := lw_V q1114 q1116 qs30 q109 q1117
theorem gxX0_195 : GoodIn lw_all (wsV RX0 195 RX1 yX1_turn (ws_ yX1_turn cX1_turn 4 (some .int))) := lw_V q1126 q1127 q1128 q110 q1129
theorem gxX0_200 : GoodIn lw_all (wsV RX0 200 RX1 yX1_cast (ws_ yX1_cast cX1_cast 11 (some .int))) := lw_V q1141 q1142 q1143 q110 q1144
theorem gxX0_204 : GoodIn lw_all (wsV RX0 204 RX0 yX0_isHand (ws_ yX0_isHand cX0_isHand 2 (some .boolean))) := lw_V q1134 q1136 qs32 q109 q1137
theorem gxX0_207 : GoodIn lw_all (va_wsS RX0 207 yX0_isHeat (ws_ yX0_isHeat cX0_isHeat 1 (some .boolean))) := lw_S q1138 q1139 q109 q1140
theorem gxX0_216 : GoodIn lw_all (wsV RX0 216 RX3 yX3_copy (ws_ yX3_copy cX3_copy 2 (some (.object "SealCasts$Chest")))) := lw_V q1235 q1236 q1237 q115 q1238
theorem gxX0_223 : GoodIn lw_all (wsV RX0 223 RX0 yX0_act (ws_ yX0_act cX0_act 2 none)) := lw_V q1230 q1232 qs33 q109 q1233
theorem gxX0_229 : GoodIn lw_all (wsV RX0 229 RX0 yX0_isMark (ws_ yX0_isMark cX0_isMark 2 (some .boolean))) := lw_V q1248 q1250 qs34 q109 q1251
theorem gxX0_232 : GoodIn lw_all (wsV RX0 232 RX0 yX0_exchange (ws_ yX0_exchange cX0_exchange 2 none)) := lw_V q1260 q1262 qs35 q109 q1263
theorem gxX0_236 : GoodIn lw_all (wsV RX0 236 RX0 yX0_castOf (ws_ yX0_castOf cX0_castOf 4 (some .int))) := lw_V q1272 q1274 qs36 q109 q1275
theorem gxX0_240 : GoodIn lw_all (va_wsS RX0 240 yJ15_bitCount (ws_ yJ15_bitCount cJ15_bitCount 1 (some .int))) := lw_S q1280 q1147 q138 q1148
theorem gxX0_245 : GoodIn lw_all (wsV RX0 245 RX0 yX0_layGiven (ws_ yX0_layGiven cX0_layGiven 5 (some .boolean))) := lw_V q1293 q1295 qs37 q109 q1296
theorem gxX0_248 : GoodIn lw_all (wsV RX0 248 RX0 yX0_drawsOf (ws_ yX0_drawsOf cX0_drawsOf 4 (some .int))) := lw_V q1297 q1299 qs38 q109 q1300
theorem cwX0_210 : CpyW RX0 210 := ⟨q1234, q576, q575, q125⟩
def w_X0_end (S : XS) (v1 : Int32) (μ : WS) (Q : Int32 → WS → Prop) : Prop := ((v1 < 0) → Q (-1) μ) ∧ ((¬ v1 < 0) → ((v1 ≤ μ.1 0 1) → (∀ μ3 : WS, μ3 = wset μ 0 1 v1 → Q v1 μ3)) ∧ ((¬ v1 ≤ μ.1 0 1) → Q (-1) μ))
abbrev rm_X0_end : Room := { frames := 0, cells := 0, slots := 0, locals := 0 }
theorem mf_X0_end : MFact yX0_end 1 rm_X0_end := ⟨by decide +kernel, rfl, rfl⟩
set_option maxHeartbeats 4000000 in
theorem met_X0_end (l : Launch) (D : va_G) (ac : Nat → ClassId) (ad : Nat → Nat) (S : XS) (hLay : LayOk ad (knX S)) (v1 : Int32) (μ : WS) (Q : Int32 → WS → Prop) (h : w_X0_end S v1 μ Q) : CMet l yX0_end cX0_end 2 (some .int) rm_X0_end D ac ad (knX S) (ExX D ac ad S) [.ref (ad 0), .int v1] μ (qI Q) := by
  refine vv_met (lv := [(0, .ref (ad 0)), (1, .int v1)]) (by decide) hLay exX_ok (Nat.le_of_ble_eq_true rfl) rfl ⟨rfl, rfl⟩ (fun C hC hK hRm hLl hR hM => ?_)
  subst hLl
  have hRo : RoomOk (HPW D ac ad (knX S) (ExX D ac ad S) (vS C)) (vR C) := HPW.room
  unfold w_X0_end at h
  refine vv_iload_n hC dX0_end_0 rfl 1 rfl ?_
  refine vv_if_lt (tgt := 12) hC dX0_end_1 rfl (fun c1 => ?_) (fun c1 => ?_)
  · replace h := h.1 c1
    refine vv_iconst hC dX0_end_12 xic_m1 ?_
    exact vv_iret hC hM dX0_end_13 h
  · replace h := h.2 c1
    refine vv_iload_n hC dX0_end_4 rfl 1 rfl ?_
    refine vv_aload_n hC dX0_end_5 rfl 0 rfl ?_
    refine vv_getf hC hR hK fxX0_103_X0 0 (lx_0 S) rfl dX0_end_6 ?_
    refine vv_icmp_le (tgt := 14) hC dX0_end_9 rfl (fun c2 => ?_) (fun c2 => ?_)
    · replace h := h.1 c2
      refine vv_aload_n hC dX0_end_14 rfl 0 rfl ?_
      refine vv_iload_n hC dX0_end_15 rfl 1 rfl ?_
      refine vv_puti hC hR hK fxX0_103_X0 0 (lx_0 S) rfl rfl rfl dX0_end_16 ?_
      refine vv_st (fun y e => ?_)
      obtain ⟨μ3, _⟩ := y
      have eμ3 := congrArg Prod.fst e
      clear e
      replace h := h μ3 eμ3
      refine vv_iload_n hC dX0_end_19 rfl 1 rfl ?_
      exact vv_iret hC hM dX0_end_20 h
    · replace h := h.2 c2
      refine vv_iconst hC dX0_end_12 xic_m1 ?_
      exact vv_iret hC hM dX0_end_13 h
def w_X0_hands (S : XS) (μ : WS) (Q : Int32 → WS → Prop) : Prop := (w_J2_size_133 S μ (fun r2 μ1 => Q r2 μ1))
abbrev rm_X0_hands : Room := { frames := 1, cells := 0, slots := 0, locals := 20 }
theorem mf_X0_hands : MFact yX0_hands 0 rm_X0_hands := ⟨by decide +kernel, rfl, rfl⟩
set_option maxHeartbeats 4000000 in
theorem met_X0_hands (l : Launch) (D : va_G) (ac : Nat → ClassId) (ad : Nat → Nat) (S : XS) (hLay : LayOk ad (knX S)) (μ : WS) (Q : Int32 → WS → Prop) (h : w_X0_hands S  μ Q) : CMet l yX0_hands cX0_hands 1 (some .int) rm_X0_hands D ac ad (knX S) (ExX D ac ad S) [.ref (ad 0)] μ (qI Q) := by
  refine vv_met (lv := [(0, .ref (ad 0))]) (by decide) hLay exX_ok (Nat.le_of_ble_eq_true rfl) rfl ⟨rfl, rfl⟩ (fun C hC hK hRm hLl hR hM => ?_)
  subst hLl
  have hRo : RoomOk (HPW D ac ad (knX S) (ExX D ac ad S) (vS C)) (vR C) := HPW.room
  unfold w_X0_hands at h
  refine vv_aload_n hC dX0_hands_0 rfl 0 rfl ?_
  refine vv_getf hC hR hK fxX0_20_X0 0 (lx_0 S) rfl dX0_hands_1 ?_
  refine vv_getf hC hR hK fxX0_142_X1 104 (lx_104 S) rfl dX0_hands_4 ?_
  refine vv_callVi hC hR hK hRo hRm [] [] (met_J2_size_133 (vL C) D ac ad S hLay  μ _ h) gxX0_144 mf_J2_size_133 rfl (lx_133 S) rfl rfl rfl rfl dX0_hands_7 (fun r2 μ1 h => ?_)
  exact vv_iret hC hM dX0_hands_10 h
def w_X0_fault (S : XS) (v1 : Int32) (μ : WS) (Q : Int32 → WS → Prop) : Prop := ((¬ v1 = 0) → ((¬ v1 = 1) → Q (-1) μ) ∧ ((v1 = 1) → Q (μ.1 0 3) μ)) ∧ ((v1 = 0) → Q (μ.1 0 2) μ)
abbrev rm_X0_fault : Room := { frames := 0, cells := 0, slots := 0, locals := 0 }
theorem mf_X0_fault : MFact yX0_fault 1 rm_X0_fault := ⟨by decide +kernel, rfl, rfl⟩
set_option maxHeartbeats 4000000 in
theorem met_X0_fault (l : Launch) (D : va_G) (ac : Nat → ClassId) (ad : Nat → Nat) (S : XS) (hLay : LayOk ad (knX S)) (v1 : Int32) (μ : WS) (Q : Int32 → WS → Prop) (h : w_X0_fault S v1 μ Q) : CMet l yX0_fault cX0_fault 2 (some .int) rm_X0_fault D ac ad (knX S) (ExX D ac ad S) [.ref (ad 0), .int v1] μ (qI Q) := by
  refine vv_met (lv := [(0, .ref (ad 0)), (1, .int v1)]) (by decide) hLay exX_ok (Nat.le_of_ble_eq_true rfl) rfl ⟨rfl, rfl⟩ (fun C hC hK hRm hLl hR hM => ?_)
  subst hLl
  have hRo : RoomOk (HPW D ac ad (knX S) (ExX D ac ad S) (vS C)) (vR C) := HPW.room
  unfold w_X0_fault at h
  refine vv_iload_n hC dX0_fault_0 rfl 1 rfl ?_
  refine vv_if_ne (tgt := 11) hC dX0_fault_1 rfl (fun c1 => ?_) (fun c1 => ?_)
  · replace h := h.1 c1
    refine vv_iload_n hC dX0_fault_11 rfl 1 rfl ?_
    refine vv_iconst hC dX0_fault_12 xic_1 ?_
    refine vv_icmp_ne (tgt := 23) hC dX0_fault_13 rfl (fun c2 => ?_) (fun c2 => ?_)
    · replace h := h.1 c2
      refine vv_iconst hC dX0_fault_23 xic_m1 ?_
      exact vv_iret hC hM dX0_fault_24 h
    · replace h := h.2 c2
      refine vv_aload_n hC dX0_fault_16 rfl 0 rfl ?_
      refine vv_getf hC hR hK fxX0_13_X0 0 (lx_0 S) rfl dX0_fault_17 ?_
      refine vv_goto (tgt := 24) hC dX0_fault_20 rfl ?_
      exact vv_iret hC hM dX0_fault_24 h
  · replace h := h.2 c1
    refine vv_aload_n hC dX0_fault_4 rfl 0 rfl ?_
    refine vv_getf hC hR hK fxX0_132_X0 0 (lx_0 S) rfl dX0_fault_5 ?_
    refine vv_goto (tgt := 24) hC dX0_fault_8 rfl ?_
    exact vv_iret hC hM dX0_fault_24 h
def w_X0_isIn (S : XS) (v0 : Int32) (v1 : Int32) (v2 : Int32) (μ : WS) (Q : Int32 → WS → Prop) : Prop := ((v0 < v1) → Q 0 μ) ∧ ((¬ v0 < v1) → ((v2 < v0) → Q 0 μ) ∧ ((¬ v2 < v0) → Q 1 μ))
abbrev rm_X0_isIn : Room := { frames := 0, cells := 0, slots := 0, locals := 0 }
theorem mf_X0_isIn : MFact yX0_isIn 3 rm_X0_isIn := ⟨by decide +kernel, rfl, rfl⟩
set_option maxHeartbeats 4000000 in
theorem met_X0_isIn (l : Launch) (D : va_G) (ac : Nat → ClassId) (ad : Nat → Nat) (S : XS) (hLay : LayOk ad (knX S)) (v0 : Int32) (v1 : Int32) (v2 : Int32) (μ : WS) (Q : Int32 → WS → Prop) (h : w_X0_isIn S v0 v1 v2 μ Q) : CMet l yX0_isIn cX0_isIn 3 (some .boolean) rm_X0_isIn D ac ad (knX S) (ExX D ac ad S) [.int v0, .int v1, .int v2] μ (qI Q) := by
  refine vv_met (lv := [(0, .int v0), (1, .int v1), (2, .int v2)]) (by decide) hLay exX_ok (Nat.le_of_ble_eq_true rfl) rfl ⟨rfl, rfl⟩ (fun C hC hK hRm hLl hR hM => ?_)
  subst hLl
  have hRo : RoomOk (HPW D ac ad (knX S) (ExX D ac ad S) (vS C)) (vR C) := HPW.room
  unfold w_X0_isIn at h
  refine vv_iload_n hC dX0_isIn_0 rfl 0 rfl ?_
  refine vv_iload_n hC dX0_isIn_1 rfl 1 rfl ?_
  refine vv_icmp_lt (tgt := 14) hC dX0_isIn_2 rfl (fun c1 => ?_) (fun c1 => ?_)
  · replace h := h.1 c1
    refine vv_iconst hC dX0_isIn_14 xic_0 ?_
    exact vv_zret hC hM dX0_isIn_15 isB_0 h
  · replace h := h.2 c1
    refine vv_iload_n hC dX0_isIn_5 rfl 0 rfl ?_
    refine vv_iload_n hC dX0_isIn_6 rfl 2 rfl ?_
    refine vv_icmp_gt (tgt := 14) hC dX0_isIn_7 rfl (fun c2 => ?_) (fun c2 => ?_)
    · replace h := h.1 c2
      refine vv_iconst hC dX0_isIn_14 xic_0 ?_
      exact vv_zret hC hM dX0_isIn_15 isB_0 h
    · replace h := h.2 c2
      refine vv_iconst hC dX0_isIn_10 xic_1 ?_
      refine vv_goto (tgt := 15) hC dX0_isIn_11 rfl ?_
      exact vv_zret hC hM dX0_isIn_15 isB_1 h
def w_X0_isSeal (S : XS) (v1 : Int32) (μ : WS) (Q : Int32 → WS → Prop) : Prop := (w_X0_isIn S v1 0 ((μ.1 1000 7) - 1) μ (fun r2 μ1 => isB r2 ∧ Q r2 μ1))
abbrev rm_X0_isSeal : Room := { frames := 1, cells := 0, slots := 0, locals := 22 }
theorem mf_X0_isSeal : MFact yX0_isSeal 1 rm_X0_isSeal := ⟨by decide +kernel, rfl, rfl⟩
set_option maxHeartbeats 4000000 in
theorem met_X0_isSeal (l : Launch) (D : va_G) (ac : Nat → ClassId) (ad : Nat → Nat) (S : XS) (hLay : LayOk ad (knX S)) (v1 : Int32) (μ : WS) (Q : Int32 → WS → Prop) (h : w_X0_isSeal S v1 μ Q) : CMet l yX0_isSeal cX0_isSeal 2 (some .boolean) rm_X0_isSeal D ac ad (knX S) (ExX D ac ad S) [.ref (ad 0), .int v1] μ (qI Q) := by
  refine vv_met (lv := [(0, .ref (ad 0)), (1, .int v1)]) (by decide) hLay exX_ok (Nat.le_of_ble_eq_true rfl) rfl ⟨rfl, rfl⟩ (fun C hC hK hRm hLl hR hM => ?_)
  subst hLl
  have hRo : RoomOk (HPW D ac ad (knX S) (ExX D ac ad S) (vS C)) (vR C) := HPW.room
  unfold w_X0_isSeal at h
  refine vv_iload_n hC dX0_isSeal_0 rfl 1 rfl ?_
  refine vv_iconst hC dX0_isSeal_1 xic_0 ?_
  refine vv_aload_n hC dX0_isSeal_2 rfl 0 rfl ?_
  refine vv_getf hC hR hK fxX0_31_X0 0 (lx_0 S) rfl dX0_isSeal_3 ?_
  refine vv_getf hC hR hK fxX0_154_X3 1000 (lx_1000 S) rfl dX0_isSeal_6 ?_
  refine vv_iconst hC dX0_isSeal_9 xic_1 ?_
  refine vv_isub hC dX0_isSeal_10 ?_
  refine vv_callSi hC hR hK hRo hRm [.int v1, .int 0, .int ((μ.1 1000 7) - 1)] [] (met_X0_isIn (vL C) D ac ad S hLay v1 0 ((μ.1 1000 7) - 1) μ _ h) gxX0_150 mf_X0_isIn rfl rfl rfl dX0_isSeal_11 (fun r2 μ1 h => ?_)
  exact vv_zret hC hM dX0_isSeal_14 h.1 h.2
def w_X0_seal (S : XS) (v1 : Int32) (v2 : Int32) (μ : WS) (Q : Int32 → WS → Prop) : Prop := (w_X0_isSeal S v1 μ (fun r2 μ1 => ((¬ r2 = 0) → (v2 = 0 → (vp_in v1 24 ∧ Q (μ1.1 1001 v1.toNatClampNeg) μ1)) ∧ (v2 = 1 → (vp_in v1 24 ∧ Q (μ1.1 1002 v1.toNatClampNeg) μ1)) ∧ (v2 = 2 → (vp_in v1 24 ∧ Q (μ1.1 1003 v1.toNatClampNeg) μ1)) ∧ (v2 = 3 → (vp_in v1 24 ∧ Q (μ1.1 1004 v1.toNatClampNeg) μ1)) ∧ (v2 = 4 → (w_X3_castsFrom S v1 μ1 (fun r6 μ5 => Q r6 μ5))) ∧ ((¬ v2 = 0) → (¬ v2 = 1) → (¬ v2 = 2) → (¬ v2 = 3) → (¬ v2 = 4) → Q (-1) μ1)) ∧ ((r2 = 0) → Q (-1) μ1)))
abbrev rm_X0_seal : Room := { frames := 2, cells := 0, slots := 0, locals := 43 }
theorem mf_X0_seal : MFact yX0_seal 2 rm_X0_seal := ⟨by decide +kernel, rfl, rfl⟩
set_option maxHeartbeats 4000000 in
theorem met_X0_seal (l : Launch) (D : va_G) (ac : Nat → ClassId) (ad : Nat → Nat) (S : XS) (hLay : LayOk ad (knX S)) (v1 : Int32) (v2 : Int32) (μ : WS) (Q : Int32 → WS → Prop) (h : w_X0_seal S v1 v2 μ Q) : CMet l yX0_seal cX0_seal 3 (some .int) rm_X0_seal D ac ad (knX S) (ExX D ac ad S) [.ref (ad 0), .int v1, .int v2] μ (qI Q) := by
  refine vv_met (lv := [(0, .ref (ad 0)), (1, .int v1), (2, .int v2)]) (by decide) hLay exX_ok (Nat.le_of_ble_eq_true rfl) rfl ⟨rfl, rfl⟩ (fun C hC hK hRm hLl hR hM => ?_)
  subst hLl
  have hRo : RoomOk (HPW D ac ad (knX S) (ExX D ac ad S) (vS C)) (vR C) := HPW.room
  unfold w_X0_seal at h
  refine vv_aload_n hC dX0_seal_0 rfl 0 rfl ?_
  refine vv_iload_n hC dX0_seal_1 rfl 1 rfl ?_
  refine vv_callVi hC hR hK hRo hRm [.int v1] [] (met_X0_isSeal (vL C) D ac ad S hLay v1 μ _ h) gxX0_160 mf_X0_isSeal rfl (lx_0 S) rfl rfl rfl rfl dX0_seal_2 (fun r2 μ1 h => ?_)
  refine vv_if_ne (tgt := 10) hC dX0_seal_5 rfl (fun c3 => ?_) (fun c3 => ?_)
  · replace h := h.1 c3
    refine vv_iload_n hC dX0_seal_10 rfl 2 rfl ?_
    by_cases c4_0 : v2 = 0
    · replace h := h.1 c4_0
      rw [c4_0]
      refine vv_tableIn (tgt := 44) hC dX0_seal_11 (by decide) (by decide) rfl rfl ?_
      refine vv_aload_n hC dX0_seal_44 rfl 0 rfl ?_
      refine vv_getf hC hR hK fxX0_31_X0 0 (lx_0 S) rfl dX0_seal_45 ?_
      refine vv_getf hC hR hK fxX0_164_X3 1000 (lx_1000 S) rfl dX0_seal_48 ?_
      refine vv_iload_n hC dX0_seal_51 rfl 1 rfl ?_
      obtain ⟨hin92, h⟩ := h
      refine vv_iald hC hR hK 1001 (lx_1001 S) hin92 dX0_seal_52 ?_
      exact vv_iret hC hM dX0_seal_53 h
    · replace h := h.2
      by_cases c4_1 : v2 = 1
      · replace h := h.1 c4_1
        rw [c4_1]
        refine vv_tableIn (tgt := 54) hC dX0_seal_11 (by decide) (by decide) rfl rfl ?_
        refine vv_aload_n hC dX0_seal_54 rfl 0 rfl ?_
        refine vv_getf hC hR hK fxX0_31_X0 0 (lx_0 S) rfl dX0_seal_55 ?_
        refine vv_getf hC hR hK fxX0_167_X3 1000 (lx_1000 S) rfl dX0_seal_58 ?_
        refine vv_iload_n hC dX0_seal_61 rfl 1 rfl ?_
        obtain ⟨hin93, h⟩ := h
        refine vv_iald hC hR hK 1002 (lx_1002 S) hin93 dX0_seal_62 ?_
        exact vv_iret hC hM dX0_seal_63 h
      · replace h := h.2
        by_cases c4_2 : v2 = 2
        · replace h := h.1 c4_2
          rw [c4_2]
          refine vv_tableIn (tgt := 64) hC dX0_seal_11 (by decide) (by decide) rfl rfl ?_
          refine vv_aload_n hC dX0_seal_64 rfl 0 rfl ?_
          refine vv_getf hC hR hK fxX0_31_X0 0 (lx_0 S) rfl dX0_seal_65 ?_
          refine vv_getf hC hR hK fxX0_170_X3 1000 (lx_1000 S) rfl dX0_seal_68 ?_
          refine vv_iload_n hC dX0_seal_71 rfl 1 rfl ?_
          obtain ⟨hin94, h⟩ := h
          refine vv_iald hC hR hK 1003 (lx_1003 S) hin94 dX0_seal_72 ?_
          exact vv_iret hC hM dX0_seal_73 h
        · replace h := h.2
          by_cases c4_3 : v2 = 3
          · replace h := h.1 c4_3
            rw [c4_3]
            refine vv_tableIn (tgt := 74) hC dX0_seal_11 (by decide) (by decide) rfl rfl ?_
            refine vv_aload_n hC dX0_seal_74 rfl 0 rfl ?_
            refine vv_getf hC hR hK fxX0_31_X0 0 (lx_0 S) rfl dX0_seal_75 ?_
            refine vv_getf hC hR hK fxX0_173_X3 1000 (lx_1000 S) rfl dX0_seal_78 ?_
            refine vv_iload_n hC dX0_seal_81 rfl 1 rfl ?_
            obtain ⟨hin95, h⟩ := h
            refine vv_iald hC hR hK 1004 (lx_1004 S) hin95 dX0_seal_82 ?_
            exact vv_iret hC hM dX0_seal_83 h
          · replace h := h.2
            by_cases c4_4 : v2 = 4
            · replace h := h.1 c4_4
              rw [c4_4]
              refine vv_tableIn (tgt := 84) hC dX0_seal_11 (by decide) (by decide) rfl rfl ?_
              refine vv_aload_n hC dX0_seal_84 rfl 0 rfl ?_
              refine vv_getf hC hR hK fxX0_31_X0 0 (lx_0 S) rfl dX0_seal_85 ?_
              refine vv_iload_n hC dX0_seal_88 rfl 1 rfl ?_
              refine vv_callVi hC hR hK hRo hRm [.int v1] [] (met_X3_castsFrom (vL C) D ac ad S hLay v1 μ1 _ h) gxX0_176 mf_X3_castsFrom rfl (lx_1000 S) rfl rfl rfl rfl dX0_seal_89 (fun r6 μ5 h => ?_)
              exact vv_iret hC hM dX0_seal_92 h
            · replace h := h.2
              replace h := h c4_0 c4_1 c4_2 c4_3 c4_4
              by_cases c4_lo : v2.toInt < 0 ∨ 4 < v2.toInt
              · refine vv_tableOut (tgt := 93) hC dX0_seal_11 c4_lo rfl ?_
                refine vv_iconst hC dX0_seal_93 xic_m1 ?_
                exact vv_iret hC hM dX0_seal_94 h
              · obtain ⟨nn, hn1, hn2⟩ := sw_in (fun q => c4_lo (Or.inl q)) (fun q => c4_lo (Or.inr q))
                match nn, hn1, hn2 with
                | 0, _, hn2 => exact absurd (sw_eq (hn2.trans (by decide))) c4_0
                | 1, _, hn2 => exact absurd (sw_eq (hn2.trans (by decide))) c4_1
                | 2, _, hn2 => exact absurd (sw_eq (hn2.trans (by decide))) c4_2
                | 3, _, hn2 => exact absurd (sw_eq (hn2.trans (by decide))) c4_3
                | 4, _, hn2 => exact absurd (sw_eq (hn2.trans (by decide))) c4_4
                | q + 5, hn1, _ => exact absurd hn1 (by omega)
  · replace h := h.2 c3
    refine vv_iconst hC dX0_seal_8 xic_m1 ?_
    exact vv_iret hC hM dX0_seal_9 h
def w_X0_shown (S : XS) (v1 : Int32) (v2 : Int32) (μ : WS) (Q : Int32 → WS → Prop) : Prop := (w_X0_isIn S v1 0 ((μ.1 1000 8) - 1) μ (fun r2 μ1 => ((¬ r2 = 0) → ((¬ v2 = 0) → ((¬ v2 = 1) → ((¬ v2 = 2) → Q (-1) μ1) ∧ ((v2 = 2) → (vp_in v1 40 ∧ Q (μ1.1 1007 v1.toNatClampNeg) μ1))) ∧ ((v2 = 1) → (vp_in v1 40 ∧ Q (μ1.1 1006 v1.toNatClampNeg) μ1))) ∧ ((v2 = 0) → (vp_in v1 40 ∧ Q (μ1.1 1005 v1.toNatClampNeg) μ1))) ∧ ((r2 = 0) → Q (-1) μ1)))
abbrev rm_X0_shown : Room := { frames := 1, cells := 0, slots := 0, locals := 22 }
theorem mf_X0_shown : MFact yX0_shown 2 rm_X0_shown := ⟨by decide +kernel, rfl, rfl⟩
set_option maxHeartbeats 4000000 in
theorem met_X0_shown (l : Launch) (D : va_G) (ac : Nat → ClassId) (ad : Nat → Nat) (S : XS) (hLay : LayOk ad (knX S)) (v1 : Int32) (v2 : Int32) (μ : WS) (Q : Int32 → WS → Prop) (h : w_X0_shown S v1 v2 μ Q) : CMet l yX0_shown cX0_shown 3 (some .int) rm_X0_shown D ac ad (knX S) (ExX D ac ad S) [.ref (ad 0), .int v1, .int v2] μ (qI Q) := by
  refine vv_met (lv := [(0, .ref (ad 0)), (1, .int v1), (2, .int v2)]) (by decide) hLay exX_ok (Nat.le_of_ble_eq_true rfl) rfl ⟨rfl, rfl⟩ (fun C hC hK hRm hLl hR hM => ?_)
  subst hLl
  have hRo : RoomOk (HPW D ac ad (knX S) (ExX D ac ad S) (vS C)) (vR C) := HPW.room
  unfold w_X0_shown at h
  refine vv_iload_n hC dX0_shown_0 rfl 1 rfl ?_
  refine vv_iconst hC dX0_shown_1 xic_0 ?_
  refine vv_aload_n hC dX0_shown_2 rfl 0 rfl ?_
  refine vv_getf hC hR hK fxX0_31_X0 0 (lx_0 S) rfl dX0_shown_3 ?_
  refine vv_getf hC hR hK fxX0_180_X3 1000 (lx_1000 S) rfl dX0_shown_6 ?_
  refine vv_iconst hC dX0_shown_9 xic_1 ?_
  refine vv_isub hC dX0_shown_10 ?_
  refine vv_callSi hC hR hK hRo hRm [.int v1, .int 0, .int ((μ.1 1000 8) - 1)] [] (met_X0_isIn (vL C) D ac ad S hLay v1 0 ((μ.1 1000 8) - 1) μ _ h) gxX0_150 mf_X0_isIn rfl rfl rfl dX0_shown_11 (fun r2 μ1 h => ?_)
  refine vv_if_ne (tgt := 21) hC dX0_shown_14 rfl (fun c3 => ?_) (fun c3 => ?_)
  · replace h := h.1 c3
    refine vv_iload_n hC dX0_shown_21 rfl 2 rfl ?_
    refine vv_if_ne (tgt := 37) hC dX0_shown_22 rfl (fun c4 => ?_) (fun c4 => ?_)
    · replace h := h.1 c4
      refine vv_iload_n hC dX0_shown_37 rfl 2 rfl ?_
      refine vv_iconst hC dX0_shown_38 xic_1 ?_
      refine vv_icmp_ne (tgt := 54) hC dX0_shown_39 rfl (fun c5 => ?_) (fun c5 => ?_)
      · replace h := h.1 c5
        refine vv_iload_n hC dX0_shown_54 rfl 2 rfl ?_
        refine vv_iconst hC dX0_shown_55 xic_2 ?_
        refine vv_icmp_ne (tgt := 71) hC dX0_shown_56 rfl (fun c6 => ?_) (fun c6 => ?_)
        · replace h := h.1 c6
          refine vv_iconst hC dX0_shown_71 xic_m1 ?_
          exact vv_iret hC hM dX0_shown_72 h
        · replace h := h.2 c6
          refine vv_aload_n hC dX0_shown_59 rfl 0 rfl ?_
          refine vv_getf hC hR hK fxX0_31_X0 0 (lx_0 S) rfl dX0_shown_60 ?_
          refine vv_getf hC hR hK fxX0_189_X3 1000 (lx_1000 S) rfl dX0_shown_63 ?_
          refine vv_iload_n hC dX0_shown_66 rfl 1 rfl ?_
          obtain ⟨hin96, h⟩ := h
          refine vv_iald hC hR hK 1007 (lx_1007 S) hin96 dX0_shown_67 ?_
          refine vv_goto (tgt := 72) hC dX0_shown_68 rfl ?_
          exact vv_iret hC hM dX0_shown_72 h
      · replace h := h.2 c5
        refine vv_aload_n hC dX0_shown_42 rfl 0 rfl ?_
        refine vv_getf hC hR hK fxX0_31_X0 0 (lx_0 S) rfl dX0_shown_43 ?_
        refine vv_getf hC hR hK fxX0_186_X3 1000 (lx_1000 S) rfl dX0_shown_46 ?_
        refine vv_iload_n hC dX0_shown_49 rfl 1 rfl ?_
        obtain ⟨hin97, h⟩ := h
        refine vv_iald hC hR hK 1006 (lx_1006 S) hin97 dX0_shown_50 ?_
        refine vv_goto (tgt := 72) hC dX0_shown_51 rfl ?_
        exact vv_iret hC hM dX0_shown_72 h
    · replace h := h.2 c4
      refine vv_aload_n hC dX0_shown_25 rfl 0 rfl ?_
      refine vv_getf hC hR hK fxX0_31_X0 0 (lx_0 S) rfl dX0_shown_26 ?_
      refine vv_getf hC hR hK fxX0_183_X3 1000 (lx_1000 S) rfl dX0_shown_29 ?_
      refine vv_iload_n hC dX0_shown_32 rfl 1 rfl ?_
      obtain ⟨hin98, h⟩ := h
      refine vv_iald hC hR hK 1005 (lx_1005 S) hin98 dX0_shown_33 ?_
      refine vv_goto (tgt := 72) hC dX0_shown_34 rfl ?_
      exact vv_iret hC hM dX0_shown_72 h
  · replace h := h.2 c3
    refine vv_iconst hC dX0_shown_17 xic_m1 ?_
    refine vv_goto (tgt := 72) hC dX0_shown_18 rfl ?_
    exact vv_iret hC hM dX0_shown_72 h
def w_X0_rows (S : XS) (μ : WS) (Q : Int32 → WS → Prop) : Prop := Q (1 <<< ((μ.1 104 2) &&& 31)) μ
abbrev rm_X0_rows : Room := { frames := 0, cells := 0, slots := 0, locals := 0 }
theorem mf_X0_rows : MFact yX0_rows 0 rm_X0_rows := ⟨by decide +kernel, rfl, rfl⟩
set_option maxHeartbeats 4000000 in
theorem met_X0_rows (l : Launch) (D : va_G) (ac : Nat → ClassId) (ad : Nat → Nat) (S : XS) (hLay : LayOk ad (knX S)) (μ : WS) (Q : Int32 → WS → Prop) (h : w_X0_rows S  μ Q) : CMet l yX0_rows cX0_rows 1 (some .int) rm_X0_rows D ac ad (knX S) (ExX D ac ad S) [.ref (ad 0)] μ (qI Q) := by
  refine vv_met (lv := [(0, .ref (ad 0))]) (by decide) hLay exX_ok (Nat.le_of_ble_eq_true rfl) rfl ⟨rfl, rfl⟩ (fun C hC hK hRm hLl hR hM => ?_)
  subst hLl
  have hRo : RoomOk (HPW D ac ad (knX S) (ExX D ac ad S) (vS C)) (vR C) := HPW.room
  unfold w_X0_rows at h
  refine vv_iconst hC dX0_rows_0 xic_1 ?_
  refine vv_aload_n hC dX0_rows_1 rfl 0 rfl ?_
  refine vv_getf hC hR hK fxX0_20_X0 0 (lx_0 S) rfl dX0_rows_2 ?_
  refine vv_getf hC hR hK fxX0_147_X1 104 (lx_104 S) rfl dX0_rows_5 ?_
  refine vv_ishl hC dX0_rows_8 ?_
  exact vv_iret hC hM dX0_rows_9 h
def w_X0_isRow (S : XS) (v1 : Int32) (μ : WS) (Q : Int32 → WS → Prop) : Prop := (w_X0_rows S μ (fun r2 μ1 => (w_X0_isIn S v1 0 (r2 - 1) μ1 (fun r4 μ3 => isB r4 ∧ Q r4 μ3))))
abbrev rm_X0_isRow : Room := { frames := 1, cells := 0, slots := 0, locals := 22 }
theorem mf_X0_isRow : MFact yX0_isRow 1 rm_X0_isRow := ⟨by decide +kernel, rfl, rfl⟩
set_option maxHeartbeats 4000000 in
theorem met_X0_isRow (l : Launch) (D : va_G) (ac : Nat → ClassId) (ad : Nat → Nat) (S : XS) (hLay : LayOk ad (knX S)) (v1 : Int32) (μ : WS) (Q : Int32 → WS → Prop) (h : w_X0_isRow S v1 μ Q) : CMet l yX0_isRow cX0_isRow 2 (some .boolean) rm_X0_isRow D ac ad (knX S) (ExX D ac ad S) [.ref (ad 0), .int v1] μ (qI Q) := by
  refine vv_met (lv := [(0, .ref (ad 0)), (1, .int v1)]) (by decide) hLay exX_ok (Nat.le_of_ble_eq_true rfl) rfl ⟨rfl, rfl⟩ (fun C hC hK hRm hLl hR hM => ?_)
  subst hLl
  have hRo : RoomOk (HPW D ac ad (knX S) (ExX D ac ad S) (vS C)) (vR C) := HPW.room
  unfold w_X0_isRow at h
  refine vv_iload_n hC dX0_isRow_0 rfl 1 rfl ?_
  refine vv_iconst hC dX0_isRow_1 xic_0 ?_
  refine vv_aload_n hC dX0_isRow_2 rfl 0 rfl ?_
  refine vv_callVi hC hR hK hRo hRm [] [.int 0, .int v1] (met_X0_rows (vL C) D ac ad S hLay  μ _ h) gxX0_157 mf_X0_rows rfl (lx_0 S) rfl rfl rfl rfl dX0_isRow_3 (fun r2 μ1 h => ?_)
  refine vv_iconst hC dX0_isRow_6 xic_1 ?_
  refine vv_isub hC dX0_isRow_7 ?_
  refine vv_callSi hC hR hK hRo hRm [.int v1, .int 0, .int (r2 - 1)] [] (met_X0_isIn (vL C) D ac ad S hLay v1 0 (r2 - 1) μ1 _ h) gxX0_150 mf_X0_isIn rfl rfl rfl dX0_isRow_8 (fun r4 μ3 h => ?_)
  exact vv_zret hC hM dX0_isRow_11 h.1 h.2
def w_X0_prints_88 (S : XS) (P30 : Int32 → Int32 → Int32 → Int32 → Int32 → Int32 → WS → Prop) (v1 : Int32) (v2 : Int32) (v3 : Int32) (v4 : Int32) (v5 : Int32) (v6 : Int32) (μ : WS) (Q : Int32 → WS → Prop) : Prop := P30 v1 v2 v3 v4 v5 (v6 + 1) μ
def w_X0_prints_86 (S : XS) (P30 : Int32 → Int32 → Int32 → Int32 → Int32 → Int32 → WS → Prop) (s0 : Int32) (v1 : Int32) (v2 : Int32) (v3 : Int32) (v5 : Int32) (v6 : Int32) (μ : WS) (Q : Int32 → WS → Prop) : Prop := w_X0_prints_88 S P30 v1 v2 v3 s0 v5 v6 μ Q
def w_X0_prints_30b (S : XS) (P30 : Int32 → Int32 → Int32 → Int32 → Int32 → Int32 → WS → Prop) (v1 : Int32) (v2 : Int32) (v3 : Int32) (v4 : Int32) (v5 : Int32) (v6 : Int32) (μ : WS) (Q : Int32 → WS → Prop) : Prop := ((μ.1 1000 8 ≤ v6) → ((¬ v2 = 0) → ((¬ v2 = 1) → Q v5 μ) ∧ ((v2 = 1) → Q v4 μ)) ∧ ((v2 = 0) → Q v3 μ)) ∧ ((¬ μ.1 1000 8 ≤ v6) → (vp_in v6 40 ∧ ((μ.1 1005 v6.toNatClampNeg = v1) → (vp_in v6 40 ∧ (∀ x11 : Int32, x11 = μ.1 1007 v6.toNatClampNeg → ((0 ≤ v4) → w_X0_prints_86 S P30 v4 v1 v2 (v3 + 1) x11 v6 μ Q) ∧ ((¬ 0 ≤ v4) → w_X0_prints_86 S P30 x11 v1 v2 (v3 + 1) x11 v6 μ Q)))) ∧ ((¬ μ.1 1005 v6.toNatClampNeg = v1) → w_X0_prints_88 S P30 v1 v2 v3 v4 v5 v6 μ Q)))
def w_X0_prints_30 (S : XS) (v1 : Int32) (v2 : Int32) (v3 : Int32) (v4 : Int32) (v5 : Int32) (v6 : Int32) (μ : WS) (Q : Int32 → WS → Prop) : Prop := ∀ P30 : Int32 → Int32 → Int32 → Int32 → Int32 → Int32 → WS → Prop, (∀ (v1 : Int32) (v2 : Int32) (v3 : Int32) (v4 : Int32) (v5 : Int32) (v6 : Int32) (μ : WS), w_X0_prints_30b S  P30 v1 v2 v3 v4 v5 v6 μ Q → P30 v1 v2 v3 v4 v5 v6 μ) → P30 v1 v2 v3 v4 v5 v6 μ
def w_X0_prints (S : XS) (v1 : Int32) (v2 : Int32) (μ : WS) (Q : Int32 → WS → Prop) : Prop := (w_X0_isRow S v1 μ (fun r2 μ1 => ((r2 = 0) → Q (-1) μ1) ∧ ((¬ r2 = 0) → (w_X0_isIn S v2 0 2 μ1 (fun r5 μ4 => ((¬ r5 = 0) → w_X0_prints_30 S v1 v2 0 (-1) (-1) 0 μ4 Q) ∧ ((r5 = 0) → Q (-1) μ4))))))
abbrev rm_X0_prints : Room := { frames := 2, cells := 0, slots := 0, locals := 43 }
theorem mf_X0_prints : MFact yX0_prints 2 rm_X0_prints := ⟨by decide +kernel, rfl, rfl⟩
set_option maxHeartbeats 4000000 in
theorem met_X0_prints (l : Launch) (D : va_G) (ac : Nat → ClassId) (ad : Nat → Nat) (S : XS) (hLay : LayOk ad (knX S)) (v1 : Int32) (v2 : Int32) (μ : WS) (Q : Int32 → WS → Prop) (h : w_X0_prints S v1 v2 μ Q) : CMet l yX0_prints cX0_prints 7 (some .int) rm_X0_prints D ac ad (knX S) (ExX D ac ad S) [.ref (ad 0), .int v1, .int v2] μ (qI Q) := by
  refine vv_met (lv := [(0, .ref (ad 0)), (1, .int v1), (2, .int v2)]) (by decide) hLay exX_ok (Nat.le_of_ble_eq_true rfl) rfl ⟨rfl, rfl⟩ (fun C hC hK hRm hLl hR hM => ?_)
  subst hLl
  have hRo : RoomOk (HPW D ac ad (knX S) (ExX D ac ad S) (vS C)) (vR C) := HPW.room
  have L88 : ∀ (P30 : Int32 → Int32 → Int32 → Int32 → Int32 → Int32 → WS → Prop) (h30 : ∀ (v1 : Int32) (v2 : Int32) (v3 : Int32) (v4 : Int32) (v5 : Int32) (v6 : Int32) (μ : WS), P30 v1 v2 v3 v4 v5 v6 μ → VV C 7 (HPW D ac ad (knX S) (ExX D ac ad S) (vS C)) (vQ C (QcW D ac ad (knX S) (qI Q)) 0 0 (inLay ad (knX S))) (μ, ()) 30 [(0, .ref (ad 0)), (1, .int v1), (2, .int v2), (3, .int v3), (4, .int v4), (5, .int v5), (6, .int v6)] []) (v1 : Int32) (v2 : Int32) (v3 : Int32) (v4 : Int32) (v5 : Int32) (v6 : Int32) (μ : WS), w_X0_prints_88 S P30 v1 v2 v3 v4 v5 v6 μ Q → VV C 7 (HPW D ac ad (knX S) (ExX D ac ad S) (vS C)) (vQ C (QcW D ac ad (knX S) (qI Q)) 0 0 (inLay ad (knX S))) (μ, ()) 88 [(0, .ref (ad 0)), (1, .int v1), (2, .int v2), (3, .int v3), (4, .int v4), (5, .int v5), (6, .int v6)] [] := by
    intro P30 h30 v1 v2 v3 v4 v5 v6 μ h
    unfold w_X0_prints_88 at h
    refine vv_iinc (pl := 6) (v := v6 + 1) (lv' := [(6, .int (v6 + 1)), (0, .ref (ad 0)), (1, .int v1), (2, .int v2), (3, .int v3), (4, .int v4), (5, .int v5)]) hC dX0_prints_88 rfl rfl (by decide) rfl ?_
    refine vv_goto (tgt := 30) hC dX0_prints_91 rfl ?_
    refine vv_lv [1, 2, 3, 4, 5, 6, 0] rfl ?_
    exact h30 _ _ _ _ _ _ _ h
  have L86 : ∀ (P30 : Int32 → Int32 → Int32 → Int32 → Int32 → Int32 → WS → Prop) (h30 : ∀ (v1 : Int32) (v2 : Int32) (v3 : Int32) (v4 : Int32) (v5 : Int32) (v6 : Int32) (μ : WS), P30 v1 v2 v3 v4 v5 v6 μ → VV C 7 (HPW D ac ad (knX S) (ExX D ac ad S) (vS C)) (vQ C (QcW D ac ad (knX S) (qI Q)) 0 0 (inLay ad (knX S))) (μ, ()) 30 [(0, .ref (ad 0)), (1, .int v1), (2, .int v2), (3, .int v3), (4, .int v4), (5, .int v5), (6, .int v6)] []) (s0 : Int32) (v1 : Int32) (v2 : Int32) (v3 : Int32) (v5 : Int32) (v6 : Int32) (μ : WS), w_X0_prints_86 S P30 s0 v1 v2 v3 v5 v6 μ Q → VV C 7 (HPW D ac ad (knX S) (ExX D ac ad S) (vS C)) (vQ C (QcW D ac ad (knX S) (qI Q)) 0 0 (inLay ad (knX S))) (μ, ()) 86 [(0, .ref (ad 0)), (1, .int v1), (2, .int v2), (3, .int v3), (5, .int v5), (6, .int v6)] [.int s0] := by
    intro P30 h30 s0 v1 v2 v3 v5 v6 μ h
    unfold w_X0_prints_86 at h
    refine vv_istore (lv' := [(4, .int s0), (0, .ref (ad 0)), (1, .int v1), (2, .int v2), (3, .int v3), (5, .int v5), (6, .int v6)]) hC dX0_prints_86 (by decide) rfl ?_
    refine vv_lv [1, 2, 3, 4, 0, 5, 6] rfl ?_
    exact L88 _ h30 _ _ _ _ _ _ _ h
  have L30 : ∀ (v1 : Int32) (v2 : Int32) (v3 : Int32) (v4 : Int32) (v5 : Int32) (v6 : Int32) (μ : WS), w_X0_prints_30 S  v1 v2 v3 v4 v5 v6 μ Q → VV C 7 (HPW D ac ad (knX S) (ExX D ac ad S) (vS C)) (vQ C (QcW D ac ad (knX S) (qI Q)) 0 0 (inLay ad (knX S))) (μ, ()) 30 [(0, .ref (ad 0)), (1, .int v1), (2, .int v2), (3, .int v3), (4, .int v4), (5, .int v5), (6, .int v6)] [] := by
    intro  v1 v2 v3 v4 v5 v6 μ h
    refine h (fun v1 v2 v3 v4 v5 v6 μ => VV C 7 (HPW D ac ad (knX S) (ExX D ac ad S) (vS C)) (vQ C (QcW D ac ad (knX S) (qI Q)) 0 0 (inLay ad (knX S))) (μ, ()) 30 [(0, .ref (ad 0)), (1, .int v1), (2, .int v2), (3, .int v3), (4, .int v4), (5, .int v5), (6, .int v6)] []) ?_
    clear h; intro v1 v2 v3 v4 v5 v6 μ h
    have h30 : ∀ (v1 : Int32) (v2 : Int32) (v3 : Int32) (v4 : Int32) (v5 : Int32) (v6 : Int32) (μ : WS), (fun v1 v2 v3 v4 v5 v6 (μ : WS) => VV C 7 (HPW D ac ad (knX S) (ExX D ac ad S) (vS C)) (vQ C (QcW D ac ad (knX S) (qI Q)) 0 0 (inLay ad (knX S))) (μ, ()) 30 [(0, .ref (ad 0)), (1, .int v1), (2, .int v2), (3, .int v3), (4, .int v4), (5, .int v5), (6, .int v6)] []) v1 v2 v3 v4 v5 v6 μ → VV C 7 (HPW D ac ad (knX S) (ExX D ac ad S) (vS C)) (vQ C (QcW D ac ad (knX S) (qI Q)) 0 0 (inLay ad (knX S))) (μ, ()) 30 [(0, .ref (ad 0)), (1, .int v1), (2, .int v2), (3, .int v3), (4, .int v4), (5, .int v5), (6, .int v6)] [] := fun _ _ _ _ _ _ _ h => h
    unfold w_X0_prints_30b at h
    refine vv_iload hC dX0_prints_30 6 rfl ?_
    refine vv_aload_n hC dX0_prints_32 rfl 0 rfl ?_
    refine vv_getf hC hR hK fxX0_31_X0 0 (lx_0 S) rfl dX0_prints_33 ?_
    refine vv_getf hC hR hK fxX0_180_X3 1000 (lx_1000 S) rfl dX0_prints_36 ?_
    refine vv_icmp_ge (tgt := 94) hC dX0_prints_39 rfl (fun c7 => ?_) (fun c7 => ?_)
    · replace h := h.1 c7
      refine vv_iload_n hC dX0_prints_94 rfl 2 rfl ?_
      refine vv_if_ne (tgt := 102) hC dX0_prints_95 rfl (fun c8 => ?_) (fun c8 => ?_)
      · replace h := h.1 c8
        refine vv_iload_n hC dX0_prints_102 rfl 2 rfl ?_
        refine vv_iconst hC dX0_prints_103 xic_1 ?_
        refine vv_icmp_ne (tgt := 112) hC dX0_prints_104 rfl (fun c9 => ?_) (fun c9 => ?_)
        · replace h := h.1 c9
          refine vv_iload hC dX0_prints_112 5 rfl ?_
          exact vv_iret hC hM dX0_prints_114 h
        · replace h := h.2 c9
          refine vv_iload hC dX0_prints_107 4 rfl ?_
          refine vv_goto (tgt := 114) hC dX0_prints_109 rfl ?_
          exact vv_iret hC hM dX0_prints_114 h
      · replace h := h.2 c8
        refine vv_iload_n hC dX0_prints_98 rfl 3 rfl ?_
        refine vv_goto (tgt := 114) hC dX0_prints_99 rfl ?_
        exact vv_iret hC hM dX0_prints_114 h
    · replace h := h.2 c7
      refine vv_aload_n hC dX0_prints_42 rfl 0 rfl ?_
      refine vv_getf hC hR hK fxX0_31_X0 0 (lx_0 S) rfl dX0_prints_43 ?_
      refine vv_getf hC hR hK fxX0_183_X3 1000 (lx_1000 S) rfl dX0_prints_46 ?_
      refine vv_iload hC dX0_prints_49 6 rfl ?_
      obtain ⟨hin99, h⟩ := h
      refine vv_iald hC hR hK 1005 (lx_1005 S) hin99 dX0_prints_51 ?_
      refine vv_iload_n hC dX0_prints_52 rfl 1 rfl ?_
      refine vv_icmp_eq (tgt := 59) hC dX0_prints_53 rfl (fun c10 => ?_) (fun c10 => ?_)
      · replace h := h.1 c10
        refine vv_iinc (pl := 3) (v := v3 + 1) (lv' := [(3, .int (v3 + 1)), (0, .ref (ad 0)), (1, .int v1), (2, .int v2), (4, .int v4), (5, .int v5), (6, .int v6)]) hC dX0_prints_59 rfl rfl (by decide) rfl ?_
        refine vv_aload_n hC dX0_prints_62 rfl 1 rfl ?_
        refine vv_getf hC hR hK fxX0_31_X0 0 (lx_0 S) rfl dX0_prints_63 ?_
        refine vv_getf hC hR hK fxX0_189_X3 1000 (lx_1000 S) rfl dX0_prints_66 ?_
        refine vv_iload hC dX0_prints_69 6 rfl ?_
        obtain ⟨hin100, h⟩ := h
        refine vv_iald hC hR hK 1007 (lx_1007 S) hin100 dX0_prints_71 ?_
        refine vv_topi (fun x11 ex11 => ?_)
        replace h := h x11 ex11
        refine vv_istore (lv' := [(5, .int x11), (3, .int (v3 + 1)), (0, .ref (ad 0)), (1, .int v1), (2, .int v2), (4, .int v4), (6, .int v6)]) hC dX0_prints_72 (by decide) rfl ?_
        refine vv_iload hC dX0_prints_74 5 rfl ?_
        refine vv_if_ge (tgt := 84) hC dX0_prints_76 rfl (fun c12 => ?_) (fun c12 => ?_)
        · replace h := h.1 c12
          refine vv_iload hC dX0_prints_84 5 rfl ?_
          refine vv_lv [2, 3, 4, 1, 0, 6] rfl ?_
          exact L86 _ h30 _ _ _ _ _ _ _ h
        · replace h := h.2 c12
          refine vv_iload hC dX0_prints_79 0 rfl ?_
          refine vv_goto (tgt := 86) hC dX0_prints_81 rfl ?_
          refine vv_lv [2, 3, 4, 1, 0, 6] rfl ?_
          exact L86 _ h30 _ _ _ _ _ _ _ h
      · replace h := h.2 c10
        refine vv_goto (tgt := 88) hC dX0_prints_56 rfl ?_
        exact L88 _ h30 _ _ _ _ _ _ _ h
  unfold w_X0_prints at h
  refine vv_aload_n hC dX0_prints_0 rfl 0 rfl ?_
  refine vv_iload_n hC dX0_prints_1 rfl 1 rfl ?_
  refine vv_callVi hC hR hK hRo hRm [.int v1] [] (met_X0_isRow (vL C) D ac ad S hLay v1 μ _ h) gxX0_192 mf_X0_isRow rfl (lx_0 S) rfl rfl rfl rfl dX0_prints_2 (fun r2 μ1 h => ?_)
  refine vv_if_eq (tgt := 17) hC dX0_prints_5 rfl (fun c3 => ?_) (fun c3 => ?_)
  · replace h := h.1 c3
    refine vv_iconst hC dX0_prints_17 xic_m1 ?_
    exact vv_iret hC hM dX0_prints_18 h
  · replace h := h.2 c3
    refine vv_iload_n hC dX0_prints_8 rfl 2 rfl ?_
    refine vv_iconst hC dX0_prints_9 xic_0 ?_
    refine vv_iconst hC dX0_prints_10 xic_2 ?_
    refine vv_callSi hC hR hK hRo hRm [.int v2, .int 0, .int 2] [] (met_X0_isIn (vL C) D ac ad S hLay v2 0 2 μ1 _ h) gxX0_150 mf_X0_isIn rfl rfl rfl dX0_prints_11 (fun r5 μ4 h => ?_)
    refine vv_if_ne (tgt := 19) hC dX0_prints_14 rfl (fun c6 => ?_) (fun c6 => ?_)
    · replace h := h.1 c6
      refine vv_iconst hC dX0_prints_19 xic_0 ?_
      refine vv_istore_n (lv' := [(3, .int 0), (0, .ref (ad 0)), (1, .int v1), (2, .int v2)]) hC dX0_prints_20 rfl (by decide) rfl ?_
      refine vv_iconst hC dX0_prints_21 xic_m1 ?_
      refine vv_istore (lv' := [(4, .int (-1)), (3, .int 0), (0, .ref (ad 0)), (1, .int v1), (2, .int v2)]) hC dX0_prints_22 (by decide) rfl ?_
      refine vv_iconst hC dX0_prints_24 xic_m1 ?_
      refine vv_istore (lv' := [(5, .int (-1)), (4, .int (-1)), (3, .int 0), (0, .ref (ad 0)), (1, .int v1), (2, .int v2)]) hC dX0_prints_25 (by decide) rfl ?_
      refine vv_iconst hC dX0_prints_27 xic_0 ?_
      refine vv_istore (lv' := [(6, .int 0), (5, .int (-1)), (4, .int (-1)), (3, .int 0), (0, .ref (ad 0)), (1, .int v1), (2, .int v2)]) hC dX0_prints_28 (by decide) rfl ?_
      refine vv_lv [4, 5, 6, 3, 2, 1, 0] rfl ?_
      exact L30  _ _ _ _ _ _ _ h
    · replace h := h.2 c6
      refine vv_iconst hC dX0_prints_17 xic_m1 ?_
      exact vv_iret hC hM dX0_prints_18 h
def w_X0_turned (S : XS) (v1 : Int32) (μ : WS) (Q : Int32 → WS → Prop) : Prop := (w_X0_isRow S v1 μ (fun r2 μ1 => ((r2 = 0) → Q (-1) μ1) ∧ ((¬ r2 = 0) → (w_X1_turn S v1 μ1 (fun r5 μ4 => Q r5 μ4)))))
abbrev rm_X0_turned : Room := { frames := 2, cells := 0, slots := 0, locals := 43 }
theorem mf_X0_turned : MFact yX0_turned 1 rm_X0_turned := ⟨by decide +kernel, rfl, rfl⟩
set_option maxHeartbeats 4000000 in
theorem met_X0_turned (l : Launch) (D : va_G) (ac : Nat → ClassId) (ad : Nat → Nat) (S : XS) (hLay : LayOk ad (knX S)) (v1 : Int32) (μ : WS) (Q : Int32 → WS → Prop) (h : w_X0_turned S v1 μ Q) : CMet l yX0_turned cX0_turned 2 (some .int) rm_X0_turned D ac ad (knX S) (ExX D ac ad S) [.ref (ad 0), .int v1] μ (qI Q) := by
  refine vv_met (lv := [(0, .ref (ad 0)), (1, .int v1)]) (by decide) hLay exX_ok (Nat.le_of_ble_eq_true rfl) rfl ⟨rfl, rfl⟩ (fun C hC hK hRm hLl hR hM => ?_)
  subst hLl
  have hRo : RoomOk (HPW D ac ad (knX S) (ExX D ac ad S) (vS C)) (vR C) := HPW.room
  unfold w_X0_turned at h
  refine vv_aload_n hC dX0_turned_0 rfl 0 rfl ?_
  refine vv_iload_n hC dX0_turned_1 rfl 1 rfl ?_
  refine vv_callVi hC hR hK hRo hRm [.int v1] [] (met_X0_isRow (vL C) D ac ad S hLay v1 μ _ h) gxX0_192 mf_X0_isRow rfl (lx_0 S) rfl rfl rfl rfl dX0_turned_2 (fun r2 μ1 h => ?_)
  refine vv_if_eq (tgt := 19) hC dX0_turned_5 rfl (fun c3 => ?_) (fun c3 => ?_)
  · replace h := h.1 c3
    refine vv_iconst hC dX0_turned_19 xic_m1 ?_
    exact vv_iret hC hM dX0_turned_20 h
  · replace h := h.2 c3
    refine vv_aload_n hC dX0_turned_8 rfl 0 rfl ?_
    refine vv_getf hC hR hK fxX0_20_X0 0 (lx_0 S) rfl dX0_turned_9 ?_
    refine vv_iload_n hC dX0_turned_12 rfl 1 rfl ?_
    refine vv_callVi hC hR hK hRo hRm [.int v1] [] (met_X1_turn (vL C) D ac ad S hLay v1 μ1 _ h) gxX0_195 mf_X1_turn rfl (lx_104 S) rfl rfl rfl rfl dX0_turned_13 (fun r5 μ4 h => ?_)
    refine vv_goto (tgt := 20) hC dX0_turned_16 rfl ?_
    exact vv_iret hC hM dX0_turned_20 h
def w_X0_isHand (S : XS) (v1 : Int32) (μ : WS) (Q : Int32 → WS → Prop) : Prop := (w_X0_hands S μ (fun r2 μ1 => (w_X0_isIn S v1 0 (r2 - 1) μ1 (fun r4 μ3 => isB r4 ∧ Q r4 μ3))))
abbrev rm_X0_isHand : Room := { frames := 2, cells := 0, slots := 0, locals := 40 }
theorem mf_X0_isHand : MFact yX0_isHand 1 rm_X0_isHand := ⟨by decide +kernel, rfl, rfl⟩
set_option maxHeartbeats 4000000 in
theorem met_X0_isHand (l : Launch) (D : va_G) (ac : Nat → ClassId) (ad : Nat → Nat) (S : XS) (hLay : LayOk ad (knX S)) (v1 : Int32) (μ : WS) (Q : Int32 → WS → Prop) (h : w_X0_isHand S v1 μ Q) : CMet l yX0_isHand cX0_isHand 2 (some .boolean) rm_X0_isHand D ac ad (knX S) (ExX D ac ad S) [.ref (ad 0), .int v1] μ (qI Q) := by
  refine vv_met (lv := [(0, .ref (ad 0)), (1, .int v1)]) (by decide) hLay exX_ok (Nat.le_of_ble_eq_true rfl) rfl ⟨rfl, rfl⟩ (fun C hC hK hRm hLl hR hM => ?_)
  subst hLl
  have hRo : RoomOk (HPW D ac ad (knX S) (ExX D ac ad S) (vS C)) (vR C) := HPW.room
  unfold w_X0_isHand at h
  refine vv_iload_n hC dX0_isHand_0 rfl 1 rfl ?_
  refine vv_iconst hC dX0_isHand_1 xic_0 ?_
  refine vv_aload_n hC dX0_isHand_2 rfl 0 rfl ?_
  refine vv_callVi hC hR hK hRo hRm [] [.int 0, .int v1] (met_X0_hands (vL C) D ac ad S hLay  μ _ h) gxX0_138 mf_X0_hands rfl (lx_0 S) rfl rfl rfl rfl dX0_isHand_3 (fun r2 μ1 h => ?_)
  refine vv_iconst hC dX0_isHand_6 xic_1 ?_
  refine vv_isub hC dX0_isHand_7 ?_
  refine vv_callSi hC hR hK hRo hRm [.int v1, .int 0, .int (r2 - 1)] [] (met_X0_isIn (vL C) D ac ad S hLay v1 0 (r2 - 1) μ1 _ h) gxX0_150 mf_X0_isIn rfl rfl rfl dX0_isHand_8 (fun r4 μ3 h => ?_)
  exact vv_zret hC hM dX0_isHand_11 h.1 h.2
def w_X0_isHeat (S : XS) (v0 : Int32) (μ : WS) (Q : Int32 → WS → Prop) : Prop := (w_X0_isIn S v0 0 9 μ (fun r2 μ1 => isB r2 ∧ Q r2 μ1))
abbrev rm_X0_isHeat : Room := { frames := 1, cells := 0, slots := 0, locals := 22 }
theorem mf_X0_isHeat : MFact yX0_isHeat 1 rm_X0_isHeat := ⟨by decide +kernel, rfl, rfl⟩
set_option maxHeartbeats 4000000 in
theorem met_X0_isHeat (l : Launch) (D : va_G) (ac : Nat → ClassId) (ad : Nat → Nat) (S : XS) (hLay : LayOk ad (knX S)) (v0 : Int32) (μ : WS) (Q : Int32 → WS → Prop) (h : w_X0_isHeat S v0 μ Q) : CMet l yX0_isHeat cX0_isHeat 1 (some .boolean) rm_X0_isHeat D ac ad (knX S) (ExX D ac ad S) [.int v0] μ (qI Q) := by
  refine vv_met (lv := [(0, .int v0)]) (by decide) hLay exX_ok (Nat.le_of_ble_eq_true rfl) rfl ⟨rfl, rfl⟩ (fun C hC hK hRm hLl hR hM => ?_)
  subst hLl
  have hRo : RoomOk (HPW D ac ad (knX S) (ExX D ac ad S) (vS C)) (vR C) := HPW.room
  unfold w_X0_isHeat at h
  refine vv_iload_n hC dX0_isHeat_0 rfl 0 rfl ?_
  refine vv_iconst hC dX0_isHeat_1 xic_0 ?_
  refine vv_bipush hC dX0_isHeat_2 xbp_9 ?_
  refine vv_callSi hC hR hK hRo hRm [.int v0, .int 0, .int 9] [] (met_X0_isIn (vL C) D ac ad S hLay v0 0 9 μ _ h) gxX0_150 mf_X0_isIn rfl rfl rfl dX0_isHeat_4 (fun r2 μ1 h => ?_)
  exact vv_zret hC hM dX0_isHeat_7 h.1 h.2
def w_X0_would (S : XS) (v1 : Int32) (v2 : Int32) (v3 : Int32) (v4 : Int32) (μ : WS) (Q : Int32 → WS → Prop) : Prop := (w_X0_isRow S v1 μ (fun r2 μ1 => ((r2 = 0) → Q (-1) μ1) ∧ ((¬ r2 = 0) → (w_X0_isHand S v2 μ1 (fun r5 μ4 => ((r5 = 0) → Q (-1) μ4) ∧ ((¬ r5 = 0) → (w_X0_isHeat S v3 μ4 (fun r8 μ7 => ((r8 = 0) → Q (-1) μ7) ∧ ((¬ r8 = 0) → (w_X0_isIn S v4 0 99 μ7 (fun r11 μ10 => ((r11 = 0) → Q (-1) μ10) ∧ ((¬ r11 = 0) → (w_X1_cast S v1 v2 v3 (μ10.1 1000 10) v4 μ10 (fun r14 μ13 => Q r14 μ13))))))))))))))
abbrev rm_X0_would : Room := { frames := 1702, cells := 0, slots := 0, locals := 51060 }
theorem mf_X0_would : MFact yX0_would 4 rm_X0_would := ⟨by decide +kernel, rfl, rfl⟩
set_option maxHeartbeats 4000000 in
theorem met_X0_would (l : Launch) (D : va_G) (ac : Nat → ClassId) (ad : Nat → Nat) (S : XS) (hLay : LayOk ad (knX S)) (v1 : Int32) (v2 : Int32) (v3 : Int32) (v4 : Int32) (μ : WS) (Q : Int32 → WS → Prop) (h : w_X0_would S v1 v2 v3 v4 μ Q) : CMet l yX0_would cX0_would 5 (some .int) rm_X0_would D ac ad (knX S) (ExX D ac ad S) [.ref (ad 0), .int v1, .int v2, .int v3, .int v4] μ (qI Q) := by
  refine vv_met (lv := [(0, .ref (ad 0)), (1, .int v1), (2, .int v2), (3, .int v3), (4, .int v4)]) (by decide) hLay exX_ok (Nat.le_of_ble_eq_true rfl) rfl ⟨rfl, rfl⟩ (fun C hC hK hRm hLl hR hM => ?_)
  subst hLl
  have hRo : RoomOk (HPW D ac ad (knX S) (ExX D ac ad S) (vS C)) (vR C) := HPW.room
  unfold w_X0_would at h
  refine vv_aload_n hC dX0_would_0 rfl 0 rfl ?_
  refine vv_iload_n hC dX0_would_1 rfl 1 rfl ?_
  refine vv_callVi hC hR hK hRo hRm [.int v1] [] (met_X0_isRow (vL C) D ac ad S hLay v1 μ _ h) gxX0_192 mf_X0_isRow rfl (lx_0 S) rfl rfl rfl rfl dX0_would_2 (fun r2 μ1 h => ?_)
  refine vv_if_eq (tgt := 56) hC dX0_would_5 rfl (fun c3 => ?_) (fun c3 => ?_)
  · replace h := h.1 c3
    refine vv_iconst hC dX0_would_56 xic_m1 ?_
    exact vv_iret hC hM dX0_would_57 h
  · replace h := h.2 c3
    refine vv_aload_n hC dX0_would_8 rfl 0 rfl ?_
    refine vv_iload_n hC dX0_would_9 rfl 2 rfl ?_
    refine vv_callVi hC hR hK hRo hRm [.int v2] [] (met_X0_isHand (vL C) D ac ad S hLay v2 μ1 _ h) gxX0_204 mf_X0_isHand rfl (lx_0 S) rfl rfl rfl rfl dX0_would_10 (fun r5 μ4 h => ?_)
    refine vv_if_eq (tgt := 56) hC dX0_would_13 rfl (fun c6 => ?_) (fun c6 => ?_)
    · replace h := h.1 c6
      refine vv_iconst hC dX0_would_56 xic_m1 ?_
      exact vv_iret hC hM dX0_would_57 h
    · replace h := h.2 c6
      refine vv_iload_n hC dX0_would_16 rfl 3 rfl ?_
      refine vv_callSi hC hR hK hRo hRm [.int v3] [] (met_X0_isHeat (vL C) D ac ad S hLay v3 μ4 _ h) gxX0_207 mf_X0_isHeat rfl rfl rfl dX0_would_17 (fun r8 μ7 h => ?_)
      refine vv_if_eq (tgt := 56) hC dX0_would_20 rfl (fun c9 => ?_) (fun c9 => ?_)
      · replace h := h.1 c9
        refine vv_iconst hC dX0_would_56 xic_m1 ?_
        exact vv_iret hC hM dX0_would_57 h
      · replace h := h.2 c9
        refine vv_iload hC dX0_would_23 4 rfl ?_
        refine vv_iconst hC dX0_would_25 xic_0 ?_
        refine vv_bipush hC dX0_would_26 xbp_99 ?_
        refine vv_callSi hC hR hK hRo hRm [.int v4, .int 0, .int 99] [] (met_X0_isIn (vL C) D ac ad S hLay v4 0 99 μ7 _ h) gxX0_150 mf_X0_isIn rfl rfl rfl dX0_would_28 (fun r11 μ10 h => ?_)
        refine vv_if_eq (tgt := 56) hC dX0_would_31 rfl (fun c12 => ?_) (fun c12 => ?_)
        · replace h := h.1 c12
          refine vv_iconst hC dX0_would_56 xic_m1 ?_
          exact vv_iret hC hM dX0_would_57 h
        · replace h := h.2 c12
          refine vv_aload_n hC dX0_would_34 rfl 0 rfl ?_
          refine vv_getf hC hR hK fxX0_20_X0 0 (lx_0 S) rfl dX0_would_35 ?_
          refine vv_iload_n hC dX0_would_38 rfl 1 rfl ?_
          refine vv_iload_n hC dX0_would_39 rfl 2 rfl ?_
          refine vv_iload_n hC dX0_would_40 rfl 3 rfl ?_
          refine vv_aload_n hC dX0_would_41 rfl 0 rfl ?_
          refine vv_getf hC hR hK fxX0_31_X0 0 (lx_0 S) rfl dX0_would_42 ?_
          refine vv_getf hC hR hK fxX0_197_X3 1000 (lx_1000 S) rfl dX0_would_45 ?_
          refine vv_iload hC dX0_would_48 4 rfl ?_
          refine vv_callVi hC hR hK hRo hRm [.int v1, .int v2, .int v3, .int (μ10.1 1000 10), .int v4] [] (met_X1_cast (vL C) D ac ad S hLay v1 v2 v3 (μ10.1 1000 10) v4 μ10 _ h) gxX0_200 mf_X1_cast rfl (lx_104 S) rfl rfl rfl rfl dX0_would_50 (fun r14 μ13 h => ?_)
          refine vv_goto (tgt := 57) hC dX0_would_53 rfl ?_
          exact vv_iret hC hM dX0_would_57 h
def w_X0_act_49 (S : XS) (μ : WS) (Q : WS → Prop) : Prop := (vp_in (μ.1 0 9) 40 ∧ (∃ b6 : Nat, μ.2.2 108 (μ.1 0 9).toNatClampNeg = some b6 ∧ ((isChestR b6) ∧ (w_X3_copy S b6 1000 μ (fun r8 μ7 => (∀ μ9 : WS, μ9 = wset μ7 0 9 ((μ7.1 0 9) + 1) → (∀ μ10 : WS, μ10 = wset μ9 0 10 0 → Q μ10)))))))
def w_X0_act (S : XS) (μ : WS) (Q : WS → Prop) : Prop := ((¬ μ.1 0 9 = 40) → w_X0_act_49 S μ Q) ∧ ((μ.1 0 9 = 40) → (∃ b2 : Nat, μ.2.2 108 0 = some b2 ∧ ((∀ i, i < 39 → ∀ b, μ.2.2 108 (1 + i) = some b → isChestR b) ∧ (∀ μ3 : WS, μ3 = wcpyR μ 108 108 1 0 39 → ((isChestR b2) ∧ (∀ μ4 : WS, μ4 = wsetR μ3 108 39 (some b2) → (∀ μ5 : WS, μ5 = wset μ4 0 9 ((μ4.1 0 9) - 1) → w_X0_act_49 S μ5 Q)))))))
abbrev rm_X0_act : Room := { frames := 2, cells := 0, slots := 0, locals := 85 }
theorem mf_X0_act : MFact yX0_act 0 rm_X0_act := ⟨by decide +kernel, rfl, rfl⟩
set_option maxHeartbeats 4000000 in
theorem met_X0_act (l : Launch) (D : va_G) (ac : Nat → ClassId) (ad : Nat → Nat) (S : XS) (hLay : LayOk ad (knX S)) (μ : WS) (Q : WS → Prop) (h : w_X0_act S  μ Q) : CMet l yX0_act cX0_act 2 none rm_X0_act D ac ad (knX S) (ExX D ac ad S) [.ref (ad 0)] μ (qV Q) := by
  refine vv_met (lv := [(0, .ref (ad 0))]) (by decide) hLay exX_ok (Nat.le_of_ble_eq_true rfl) rfl ⟨rfl, rfl⟩ (fun C hC hK hRm hLl hR hM => ?_)
  subst hLl
  have hRo : RoomOk (HPW D ac ad (knX S) (ExX D ac ad S) (vS C)) (vR C) := HPW.room
  have L49 : ∀ (μ : WS), w_X0_act_49 S   μ Q → VV C 2 (HPW D ac ad (knX S) (ExX D ac ad S) (vS C)) (vQ C (QcW D ac ad (knX S) (qV Q)) 0 0 (inLay ad (knX S))) (μ, ()) 49 [(0, .ref (ad 0))] [] := by
    intro   μ h
    unfold w_X0_act_49 at h
    refine vv_aload_n hC dX0_act_49 rfl 0 rfl ?_
    refine vv_getf hC hR hK fxX0_38_X0 0 (lx_0 S) rfl dX0_act_50 ?_
    refine vv_aload_n hC dX0_act_53 rfl 0 rfl ?_
    refine vv_getf hC hR hK fxX0_115_X0 0 (lx_0 S) rfl dX0_act_54 ?_
    obtain ⟨hin104, h⟩ := h
    obtain ⟨b6, hb105, h⟩ := h
    refine vv_aald hC hR hK 108 (t := 5) rfl (by decide) rfl (lx_108 S) hin104 hb105 dX0_act_57 ?_
    refine vv_aload_n hC dX0_act_58 rfl 0 rfl ?_
    refine vv_getf hC hR hK fxX0_31_X0 0 (lx_0 S) rfl dX0_act_59 ?_
    obtain ⟨hk106, h⟩ := h
    refine vv_callVr hC hR hK hRo hRm [.ref (ad 1000)] [] (met_X3_copy (vL C) D ac ad S hLay b6 1000 μ _ h) gxX0_216 mf_X3_copy rfl (kx_chest hk106) rfl rfl rfl rfl dX0_act_62 (fun r8 μ7 h => ?_)
    refine vv_pop hC dX0_act_65 rfl ?_
    refine vv_aload_n hC dX0_act_66 rfl 0 rfl ?_
    refine vv_dup hC dX0_act_67 rfl ?_
    refine vv_getf hC hR hK fxX0_115_X0 0 (lx_0 S) rfl dX0_act_68 ?_
    refine vv_iconst hC dX0_act_71 xic_1 ?_
    refine vv_iadd hC dX0_act_72 ?_
    refine vv_puti hC hR hK fxX0_115_X0 0 (lx_0 S) rfl rfl rfl dX0_act_73 ?_
    refine vv_st (fun y e => ?_)
    obtain ⟨μ9, _⟩ := y
    have eμ9 := congrArg Prod.fst e
    clear e
    replace h := h μ9 eμ9
    refine vv_aload_n hC dX0_act_76 rfl 0 rfl ?_
    refine vv_iconst hC dX0_act_77 xic_0 ?_
    refine vv_puti hC hR hK fxX0_118_X0 0 (lx_0 S) rfl rfl rfl dX0_act_78 ?_
    refine vv_st (fun y e => ?_)
    obtain ⟨μ10, _⟩ := y
    have eμ10 := congrArg Prod.fst e
    clear e
    replace h := h μ10 eμ10
    exact vv_vret hC hM dX0_act_81 h
  unfold w_X0_act at h
  refine vv_aload_n hC dX0_act_0 rfl 0 rfl ?_
  refine vv_getf hC hR hK fxX0_115_X0 0 (lx_0 S) rfl dX0_act_1 ?_
  refine vv_bipush hC dX0_act_4 xbp_40 ?_
  refine vv_icmp_ne (tgt := 49) hC dX0_act_6 rfl (fun c1 => ?_) (fun c1 => ?_)
  · replace h := h.1 c1
    exact L49  _ h
  · replace h := h.2 c1
    refine vv_aload_n hC dX0_act_9 rfl 0 rfl ?_
    refine vv_getf hC hR hK fxX0_38_X0 0 (lx_0 S) rfl dX0_act_10 ?_
    refine vv_iconst hC dX0_act_13 xic_0 ?_
    obtain ⟨b2, hb101, h⟩ := h
    refine vv_aald hC hR hK 108 (t := 5) rfl (by decide) rfl (lx_108 S) xvin_0_40 hb101 dX0_act_14 ?_
    refine vv_astore_n (lv' := [(1, .ref (ad b2)), (0, .ref (ad 0))]) hC dX0_act_15 rfl (by decide) rfl ?_
    refine vv_aload_n hC dX0_act_16 rfl 1 rfl ?_
    refine vv_getf hC hR hK fxX0_38_X0 0 (lx_0 S) rfl dX0_act_17 ?_
    refine vv_iconst hC dX0_act_20 xic_1 ?_
    refine vv_aload_n hC dX0_act_21 rfl 1 rfl ?_
    refine vv_getf hC hR hK fxX0_38_X0 0 (lx_0 S) rfl dX0_act_22 ?_
    refine vv_iconst hC dX0_act_25 xic_0 ?_
    refine vv_bipush hC dX0_act_26 xbp_39 ?_
    obtain ⟨hk102, h⟩ := h
    refine vv_acpyq hC hR hK cwX0_210 108 108 (t := 5) (by decide) rfl (lx_108 S) (lx_108 S) (by decide) (by decide) (by decide) (by decide) (by decide) (ci := 3) rfl (fun i hi b hb => ⟨_, kx_chest (hk102 i hi b hb)⟩) (by rw [hRm]; exact ⟨by decide, by decide +kernel⟩) dX0_act_28 ?_
    refine vv_st (fun y e => ?_)
    obtain ⟨μ3, _⟩ := y
    have eμ3 := congrArg Prod.fst e
    clear e
    replace h := h μ3 eμ3
    refine vv_aload_n hC dX0_act_31 rfl 1 rfl ?_
    refine vv_getf hC hR hK fxX0_38_X0 0 (lx_0 S) rfl dX0_act_32 ?_
    refine vv_bipush hC dX0_act_35 xbp_39 ?_
    refine vv_aload_n hC dX0_act_37 rfl 0 rfl ?_
    obtain ⟨hk103, h⟩ := h
    refine vv_aast hC hR hK 108 (t := 5) rfl (by decide) (lx_108 S) (kx_chest hk103) rfl xvin_39_40 dX0_act_38 ?_
    refine vv_st (fun y e => ?_)
    obtain ⟨μ4, _⟩ := y
    have eμ4 := congrArg Prod.fst e
    clear e
    replace h := h μ4 eμ4
    refine vv_aload_n hC dX0_act_39 rfl 1 rfl ?_
    refine vv_dup hC dX0_act_40 rfl ?_
    refine vv_getf hC hR hK fxX0_115_X0 0 (lx_0 S) rfl dX0_act_41 ?_
    refine vv_iconst hC dX0_act_44 xic_1 ?_
    refine vv_isub hC dX0_act_45 ?_
    refine vv_puti hC hR hK fxX0_115_X0 0 (lx_0 S) rfl rfl rfl dX0_act_46 ?_
    refine vv_st (fun y e => ?_)
    obtain ⟨μ5, _⟩ := y
    have eμ5 := congrArg Prod.fst e
    clear e
    replace h := h μ5 eμ5
    refine vv_lv [1] rfl ?_
    exact L49  _ h
def w_X0_cast (S : XS) (v1 : Int32) (v2 : Int32) (v3 : Int32) (μ : WS) (Q : Int32 → WS → Prop) : Prop := (w_X0_isSeal S v1 μ (fun r2 μ1 => ((r2 = 0) → Q (-1) μ1) ∧ ((¬ r2 = 0) → (w_X0_isHand S v2 μ1 (fun r5 μ4 => ((r5 = 0) → Q (-1) μ4) ∧ ((¬ r5 = 0) → (w_X0_isHeat S v3 μ4 (fun r8 μ7 => ((r8 = 0) → Q (-1) μ7) ∧ ((¬ r8 = 0) → ((μ7.1 1000 7 = 24) → Q (-1) μ7) ∧ ((¬ μ7.1 1000 7 = 24) → ((1 + v3 ≤ μ7.1 1000 9) → (w_X0_act S μ7 (fun μ12 => (∀ μ14 : WS, μ14 = wset μ12 1000 11 ((((μ12.1 1000 11) * 137) + 71) - (((μ12.1 1000 11) * 137) + 71) / 1000 * 1000) → (∀ x15 : Int32, x15 = μ14.1 1000 7 → (vp_in v1 24 ∧ (w_X1_cast S (μ14.1 1001 v1.toNatClampNeg) v2 v3 (μ14.1 1000 10) ((μ14.1 1000 11) - (μ14.1 1000 11) / 100 * 100) μ14 (fun r17 μ16 => (vp_in x15 24 ∧ (∀ μ18 : WS, μ18 = wset μ16 1001 x15.toNatClampNeg r17 → (vp_in x15 24 ∧ (∀ μ19 : WS, μ19 = wset μ18 1002 x15.toNatClampNeg v1 → (vp_in x15 24 ∧ (∀ μ20 : WS, μ20 = wset μ19 1003 x15.toNatClampNeg v2 → (vp_in x15 24 ∧ (∀ μ21 : WS, μ21 = wset μ20 1004 x15.toNatClampNeg (μ20.1 1000 10) → (∀ μ22 : WS, μ22 = wset μ21 1000 9 ((μ21.1 1000 9) - (1 + v3)) → (∀ μ23 : WS, μ23 = wset μ22 1000 7 ((μ22.1 1000 7) + 1) → Q x15 μ23)))))))))))))))))) ∧ ((¬ 1 + v3 ≤ μ7.1 1000 9) → Q (-1) μ7)))))))))))
abbrev rm_X0_cast : Room := { frames := 1702, cells := 0, slots := 0, locals := 51060 }
theorem mf_X0_cast : MFact yX0_cast 3 rm_X0_cast := ⟨by decide +kernel, rfl, rfl⟩
set_option maxHeartbeats 4000000 in
theorem met_X0_cast (l : Launch) (D : va_G) (ac : Nat → ClassId) (ad : Nat → Nat) (S : XS) (hLay : LayOk ad (knX S)) (v1 : Int32) (v2 : Int32) (v3 : Int32) (μ : WS) (Q : Int32 → WS → Prop) (h : w_X0_cast S v1 v2 v3 μ Q) : CMet l yX0_cast cX0_cast 5 (some .int) rm_X0_cast D ac ad (knX S) (ExX D ac ad S) [.ref (ad 0), .int v1, .int v2, .int v3] μ (qI Q) := by
  refine vv_met (lv := [(0, .ref (ad 0)), (1, .int v1), (2, .int v2), (3, .int v3)]) (by decide) hLay exX_ok (Nat.le_of_ble_eq_true rfl) rfl ⟨rfl, rfl⟩ (fun C hC hK hRm hLl hR hM => ?_)
  subst hLl
  have hRo : RoomOk (HPW D ac ad (knX S) (ExX D ac ad S) (vS C)) (vR C) := HPW.room
  unfold w_X0_cast at h
  refine vv_aload_n hC dX0_cast_0 rfl 0 rfl ?_
  refine vv_iload_n hC dX0_cast_1 rfl 1 rfl ?_
  refine vv_callVi hC hR hK hRo hRm [.int v1] [] (met_X0_isSeal (vL C) D ac ad S hLay v1 μ _ h) gxX0_160 mf_X0_isSeal rfl (lx_0 S) rfl rfl rfl rfl dX0_cast_2 (fun r2 μ1 h => ?_)
  refine vv_if_eq (tgt := 48) hC dX0_cast_5 rfl (fun c3 => ?_) (fun c3 => ?_)
  · replace h := h.1 c3
    refine vv_iconst hC dX0_cast_48 xic_m1 ?_
    exact vv_iret hC hM dX0_cast_49 h
  · replace h := h.2 c3
    refine vv_aload_n hC dX0_cast_8 rfl 0 rfl ?_
    refine vv_iload_n hC dX0_cast_9 rfl 2 rfl ?_
    refine vv_callVi hC hR hK hRo hRm [.int v2] [] (met_X0_isHand (vL C) D ac ad S hLay v2 μ1 _ h) gxX0_204 mf_X0_isHand rfl (lx_0 S) rfl rfl rfl rfl dX0_cast_10 (fun r5 μ4 h => ?_)
    refine vv_if_eq (tgt := 48) hC dX0_cast_13 rfl (fun c6 => ?_) (fun c6 => ?_)
    · replace h := h.1 c6
      refine vv_iconst hC dX0_cast_48 xic_m1 ?_
      exact vv_iret hC hM dX0_cast_49 h
    · replace h := h.2 c6
      refine vv_iload_n hC dX0_cast_16 rfl 3 rfl ?_
      refine vv_callSi hC hR hK hRo hRm [.int v3] [] (met_X0_isHeat (vL C) D ac ad S hLay v3 μ4 _ h) gxX0_207 mf_X0_isHeat rfl rfl rfl dX0_cast_17 (fun r8 μ7 h => ?_)
      refine vv_if_eq (tgt := 48) hC dX0_cast_20 rfl (fun c9 => ?_) (fun c9 => ?_)
      · replace h := h.1 c9
        refine vv_iconst hC dX0_cast_48 xic_m1 ?_
        exact vv_iret hC hM dX0_cast_49 h
      · replace h := h.2 c9
        refine vv_aload_n hC dX0_cast_23 rfl 0 rfl ?_
        refine vv_getf hC hR hK fxX0_31_X0 0 (lx_0 S) rfl dX0_cast_24 ?_
        refine vv_getf hC hR hK fxX0_154_X3 1000 (lx_1000 S) rfl dX0_cast_27 ?_
        refine vv_bipush hC dX0_cast_30 xbp_24 ?_
        refine vv_icmp_eq (tgt := 48) hC dX0_cast_32 rfl (fun c10 => ?_) (fun c10 => ?_)
        · replace h := h.1 c10
          refine vv_iconst hC dX0_cast_48 xic_m1 ?_
          exact vv_iret hC hM dX0_cast_49 h
        · replace h := h.2 c10
          refine vv_aload_n hC dX0_cast_35 rfl 0 rfl ?_
          refine vv_getf hC hR hK fxX0_31_X0 0 (lx_0 S) rfl dX0_cast_36 ?_
          refine vv_getf hC hR hK fxX0_220_X3 1000 (lx_1000 S) rfl dX0_cast_39 ?_
          refine vv_iconst hC dX0_cast_42 xic_1 ?_
          refine vv_iload_n hC dX0_cast_43 rfl 3 rfl ?_
          refine vv_iadd hC dX0_cast_44 ?_
          refine vv_icmp_ge (tgt := 50) hC dX0_cast_45 rfl (fun c11 => ?_) (fun c11 => ?_)
          · replace h := h.1 c11
            refine vv_aload_n hC dX0_cast_50 rfl 0 rfl ?_
            refine vv_callVv hC hR hK hRo hRm [] [] (met_X0_act (vL C) D ac ad S hLay  μ7 _ h) gxX0_223 mf_X0_act rfl (lx_0 S) rfl rfl rfl rfl dX0_cast_51 (fun μ12 h => ?_)
            refine vv_aload_n hC dX0_cast_54 rfl 0 rfl ?_
            refine vv_getf hC hR hK fxX0_31_X0 0 (lx_0 S) rfl dX0_cast_55 ?_
            refine vv_aload_n hC dX0_cast_58 rfl 0 rfl ?_
            refine vv_getf hC hR hK fxX0_31_X0 0 (lx_0 S) rfl dX0_cast_59 ?_
            refine vv_getf hC hR hK fxX0_226_X3 1000 (lx_1000 S) rfl dX0_cast_62 ?_
            refine vv_sipush hC dX0_cast_65 xsp_137 ?_
            refine vv_imul hC dX0_cast_68 ?_
            refine vv_bipush hC dX0_cast_69 xbp_71 ?_
            refine vv_iadd hC dX0_cast_71 ?_
            refine vv_sipush hC dX0_cast_72 xsp_1000 ?_
            refine vv_irem hC dX0_cast_75 (by decide) ?_
            refine vv_puti hC hR hK fxX0_226_X3 1000 (lx_1000 S) rfl rfl rfl dX0_cast_76 ?_
            refine vv_st (fun y e => ?_)
            obtain ⟨μ14, _⟩ := y
            have eμ14 := congrArg Prod.fst e
            clear e
            replace h := h μ14 eμ14
            refine vv_aload_n hC dX0_cast_79 rfl 0 rfl ?_
            refine vv_getf hC hR hK fxX0_31_X0 0 (lx_0 S) rfl dX0_cast_80 ?_
            refine vv_getf hC hR hK fxX0_154_X3 1000 (lx_1000 S) rfl dX0_cast_83 ?_
            refine vv_topi (fun x15 ex15 => ?_)
            replace h := h x15 ex15
            refine vv_istore (lv' := [(4, .int x15), (0, .ref (ad 0)), (1, .int v1), (2, .int v2), (3, .int v3)]) hC dX0_cast_86 (by decide) rfl ?_
            refine vv_aload_n hC dX0_cast_88 rfl 1 rfl ?_
            refine vv_getf hC hR hK fxX0_31_X0 0 (lx_0 S) rfl dX0_cast_89 ?_
            refine vv_getf hC hR hK fxX0_164_X3 1000 (lx_1000 S) rfl dX0_cast_92 ?_
            refine vv_iload hC dX0_cast_95 0 rfl ?_
            refine vv_aload_n hC dX0_cast_97 rfl 1 rfl ?_
            refine vv_getf hC hR hK fxX0_20_X0 0 (lx_0 S) rfl dX0_cast_98 ?_
            refine vv_aload_n hC dX0_cast_101 rfl 1 rfl ?_
            refine vv_getf hC hR hK fxX0_31_X0 0 (lx_0 S) rfl dX0_cast_102 ?_
            refine vv_getf hC hR hK fxX0_164_X3 1000 (lx_1000 S) rfl dX0_cast_105 ?_
            refine vv_iload_n hC dX0_cast_108 rfl 2 rfl ?_
            obtain ⟨hin107, h⟩ := h
            refine vv_iald hC hR hK 1001 (lx_1001 S) hin107 dX0_cast_109 ?_
            refine vv_iload_n hC dX0_cast_110 rfl 3 rfl ?_
            refine vv_iload_n hC dX0_cast_111 rfl 4 rfl ?_
            refine vv_aload_n hC dX0_cast_112 rfl 1 rfl ?_
            refine vv_getf hC hR hK fxX0_31_X0 0 (lx_0 S) rfl dX0_cast_113 ?_
            refine vv_getf hC hR hK fxX0_197_X3 1000 (lx_1000 S) rfl dX0_cast_116 ?_
            refine vv_aload_n hC dX0_cast_119 rfl 1 rfl ?_
            refine vv_getf hC hR hK fxX0_31_X0 0 (lx_0 S) rfl dX0_cast_120 ?_
            refine vv_getf hC hR hK fxX0_226_X3 1000 (lx_1000 S) rfl dX0_cast_123 ?_
            refine vv_bipush hC dX0_cast_126 xbp_100 ?_
            refine vv_irem hC dX0_cast_128 (by decide) ?_
            refine vv_callVi hC hR hK hRo hRm [.int (μ14.1 1001 v1.toNatClampNeg), .int v2, .int v3, .int (μ14.1 1000 10), .int ((μ14.1 1000 11) - (μ14.1 1000 11) / 100 * 100)] [.int x15, .ref (ad 1001)] (met_X1_cast (vL C) D ac ad S hLay (μ14.1 1001 v1.toNatClampNeg) v2 v3 (μ14.1 1000 10) ((μ14.1 1000 11) - (μ14.1 1000 11) / 100 * 100) μ14 _ h) gxX0_200 mf_X1_cast rfl (lx_104 S) rfl rfl rfl rfl dX0_cast_129 (fun r17 μ16 h => ?_)
            obtain ⟨hin108, h⟩ := h
            refine vv_iast hC hR hK 1001 (lx_1001 S) hin108 dX0_cast_132 ?_
            refine vv_st (fun y e => ?_)
            obtain ⟨μ18, _⟩ := y
            have eμ18 := congrArg Prod.fst e
            clear e
            replace h := h μ18 eμ18
            refine vv_aload_n hC dX0_cast_133 rfl 1 rfl ?_
            refine vv_getf hC hR hK fxX0_31_X0 0 (lx_0 S) rfl dX0_cast_134 ?_
            refine vv_getf hC hR hK fxX0_167_X3 1000 (lx_1000 S) rfl dX0_cast_137 ?_
            refine vv_iload hC dX0_cast_140 0 rfl ?_
            refine vv_iload_n hC dX0_cast_142 rfl 2 rfl ?_
            obtain ⟨hin109, h⟩ := h
            refine vv_iast hC hR hK 1002 (lx_1002 S) hin109 dX0_cast_143 ?_
            refine vv_st (fun y e => ?_)
            obtain ⟨μ19, _⟩ := y
            have eμ19 := congrArg Prod.fst e
            clear e
            replace h := h μ19 eμ19
            refine vv_aload_n hC dX0_cast_144 rfl 1 rfl ?_
            refine vv_getf hC hR hK fxX0_31_X0 0 (lx_0 S) rfl dX0_cast_145 ?_
            refine vv_getf hC hR hK fxX0_170_X3 1000 (lx_1000 S) rfl dX0_cast_148 ?_
            refine vv_iload hC dX0_cast_151 0 rfl ?_
            refine vv_iload_n hC dX0_cast_153 rfl 3 rfl ?_
            obtain ⟨hin110, h⟩ := h
            refine vv_iast hC hR hK 1003 (lx_1003 S) hin110 dX0_cast_154 ?_
            refine vv_st (fun y e => ?_)
            obtain ⟨μ20, _⟩ := y
            have eμ20 := congrArg Prod.fst e
            clear e
            replace h := h μ20 eμ20
            refine vv_aload_n hC dX0_cast_155 rfl 1 rfl ?_
            refine vv_getf hC hR hK fxX0_31_X0 0 (lx_0 S) rfl dX0_cast_156 ?_
            refine vv_getf hC hR hK fxX0_173_X3 1000 (lx_1000 S) rfl dX0_cast_159 ?_
            refine vv_iload hC dX0_cast_162 0 rfl ?_
            refine vv_aload_n hC dX0_cast_164 rfl 1 rfl ?_
            refine vv_getf hC hR hK fxX0_31_X0 0 (lx_0 S) rfl dX0_cast_165 ?_
            refine vv_getf hC hR hK fxX0_197_X3 1000 (lx_1000 S) rfl dX0_cast_168 ?_
            obtain ⟨hin111, h⟩ := h
            refine vv_iast hC hR hK 1004 (lx_1004 S) hin111 dX0_cast_171 ?_
            refine vv_st (fun y e => ?_)
            obtain ⟨μ21, _⟩ := y
            have eμ21 := congrArg Prod.fst e
            clear e
            replace h := h μ21 eμ21
            refine vv_aload_n hC dX0_cast_172 rfl 1 rfl ?_
            refine vv_getf hC hR hK fxX0_31_X0 0 (lx_0 S) rfl dX0_cast_173 ?_
            refine vv_dup hC dX0_cast_176 rfl ?_
            refine vv_getf hC hR hK fxX0_220_X3 1000 (lx_1000 S) rfl dX0_cast_177 ?_
            refine vv_iconst hC dX0_cast_180 xic_1 ?_
            refine vv_iload_n hC dX0_cast_181 rfl 4 rfl ?_
            refine vv_iadd hC dX0_cast_182 ?_
            refine vv_isub hC dX0_cast_183 ?_
            refine vv_puti hC hR hK fxX0_220_X3 1000 (lx_1000 S) rfl rfl rfl dX0_cast_184 ?_
            refine vv_st (fun y e => ?_)
            obtain ⟨μ22, _⟩ := y
            have eμ22 := congrArg Prod.fst e
            clear e
            replace h := h μ22 eμ22
            refine vv_aload_n hC dX0_cast_187 rfl 1 rfl ?_
            refine vv_getf hC hR hK fxX0_31_X0 0 (lx_0 S) rfl dX0_cast_188 ?_
            refine vv_dup hC dX0_cast_191 rfl ?_
            refine vv_getf hC hR hK fxX0_154_X3 1000 (lx_1000 S) rfl dX0_cast_192 ?_
            refine vv_iconst hC dX0_cast_195 xic_1 ?_
            refine vv_iadd hC dX0_cast_196 ?_
            refine vv_puti hC hR hK fxX0_154_X3 1000 (lx_1000 S) rfl rfl rfl dX0_cast_197 ?_
            refine vv_st (fun y e => ?_)
            obtain ⟨μ23, _⟩ := y
            have eμ23 := congrArg Prod.fst e
            clear e
            replace h := h μ23 eμ23
            refine vv_iload hC dX0_cast_200 0 rfl ?_
            exact vv_iret hC hM dX0_cast_202 h
          · replace h := h.2 c11
            refine vv_iconst hC dX0_cast_48 xic_m1 ?_
            exact vv_iret hC hM dX0_cast_49 h
def w_X0_print (S : XS) (v1 : Int32) (μ : WS) (Q : Int32 → WS → Prop) : Prop := (w_X0_isSeal S v1 μ (fun r2 μ1 => ((r2 = 0) → Q (-1) μ1) ∧ ((¬ r2 = 0) → ((μ1.1 1000 8 = 40) → Q (-1) μ1) ∧ ((¬ μ1.1 1000 8 = 40) → ((1 ≤ μ1.1 1000 9) → (w_X0_act S μ1 (fun μ6 => (∀ x8 : Int32, x8 = μ6.1 1000 8 → (vp_in v1 24 ∧ (w_X1_turn S (μ6.1 1001 v1.toNatClampNeg) μ6 (fun r10 μ9 => (vp_in x8 40 ∧ (∀ μ11 : WS, μ11 = wset μ9 1005 x8.toNatClampNeg r10 → (vp_in x8 40 ∧ (∀ μ12 : WS, μ12 = wset μ11 1006 x8.toNatClampNeg v1 → (vp_in x8 40 ∧ (∀ μ13 : WS, μ13 = wset μ12 1007 x8.toNatClampNeg (μ12.1 1000 10) → (∀ μ14 : WS, μ14 = wset μ13 1000 9 ((μ13.1 1000 9) - 1) → (∀ μ15 : WS, μ15 = wset μ14 1000 8 ((μ14.1 1000 8) + 1) → Q x8 μ15))))))))))))))) ∧ ((¬ 1 ≤ μ1.1 1000 9) → Q (-1) μ1)))))
abbrev rm_X0_print : Room := { frames := 3, cells := 0, slots := 0, locals := 106 }
theorem mf_X0_print : MFact yX0_print 1 rm_X0_print := ⟨by decide +kernel, rfl, rfl⟩
set_option maxHeartbeats 4000000 in
theorem met_X0_print (l : Launch) (D : va_G) (ac : Nat → ClassId) (ad : Nat → Nat) (S : XS) (hLay : LayOk ad (knX S)) (v1 : Int32) (μ : WS) (Q : Int32 → WS → Prop) (h : w_X0_print S v1 μ Q) : CMet l yX0_print cX0_print 3 (some .int) rm_X0_print D ac ad (knX S) (ExX D ac ad S) [.ref (ad 0), .int v1] μ (qI Q) := by
  refine vv_met (lv := [(0, .ref (ad 0)), (1, .int v1)]) (by decide) hLay exX_ok (Nat.le_of_ble_eq_true rfl) rfl ⟨rfl, rfl⟩ (fun C hC hK hRm hLl hR hM => ?_)
  subst hLl
  have hRo : RoomOk (HPW D ac ad (knX S) (ExX D ac ad S) (vS C)) (vR C) := HPW.room
  unfold w_X0_print at h
  refine vv_aload_n hC dX0_print_0 rfl 0 rfl ?_
  refine vv_iload_n hC dX0_print_1 rfl 1 rfl ?_
  refine vv_callVi hC hR hK hRo hRm [.int v1] [] (met_X0_isSeal (vL C) D ac ad S hLay v1 μ _ h) gxX0_160 mf_X0_isSeal rfl (lx_0 S) rfl rfl rfl rfl dX0_print_2 (fun r2 μ1 h => ?_)
  refine vv_if_eq (tgt := 31) hC dX0_print_5 rfl (fun c3 => ?_) (fun c3 => ?_)
  · replace h := h.1 c3
    refine vv_iconst hC dX0_print_31 xic_m1 ?_
    exact vv_iret hC hM dX0_print_32 h
  · replace h := h.2 c3
    refine vv_aload_n hC dX0_print_8 rfl 0 rfl ?_
    refine vv_getf hC hR hK fxX0_31_X0 0 (lx_0 S) rfl dX0_print_9 ?_
    refine vv_getf hC hR hK fxX0_180_X3 1000 (lx_1000 S) rfl dX0_print_12 ?_
    refine vv_bipush hC dX0_print_15 xbp_40 ?_
    refine vv_icmp_eq (tgt := 31) hC dX0_print_17 rfl (fun c4 => ?_) (fun c4 => ?_)
    · replace h := h.1 c4
      refine vv_iconst hC dX0_print_31 xic_m1 ?_
      exact vv_iret hC hM dX0_print_32 h
    · replace h := h.2 c4
      refine vv_aload_n hC dX0_print_20 rfl 0 rfl ?_
      refine vv_getf hC hR hK fxX0_31_X0 0 (lx_0 S) rfl dX0_print_21 ?_
      refine vv_getf hC hR hK fxX0_220_X3 1000 (lx_1000 S) rfl dX0_print_24 ?_
      refine vv_iconst hC dX0_print_27 xic_1 ?_
      refine vv_icmp_ge (tgt := 33) hC dX0_print_28 rfl (fun c5 => ?_) (fun c5 => ?_)
      · replace h := h.1 c5
        refine vv_aload_n hC dX0_print_33 rfl 0 rfl ?_
        refine vv_callVv hC hR hK hRo hRm [] [] (met_X0_act (vL C) D ac ad S hLay  μ1 _ h) gxX0_223 mf_X0_act rfl (lx_0 S) rfl rfl rfl rfl dX0_print_34 (fun μ6 h => ?_)
        refine vv_aload_n hC dX0_print_37 rfl 0 rfl ?_
        refine vv_getf hC hR hK fxX0_31_X0 0 (lx_0 S) rfl dX0_print_38 ?_
        refine vv_getf hC hR hK fxX0_180_X3 1000 (lx_1000 S) rfl dX0_print_41 ?_
        refine vv_topi (fun x8 ex8 => ?_)
        replace h := h x8 ex8
        refine vv_istore_n (lv' := [(2, .int x8), (0, .ref (ad 0)), (1, .int v1)]) hC dX0_print_44 rfl (by decide) rfl ?_
        refine vv_aload_n hC dX0_print_45 rfl 1 rfl ?_
        refine vv_getf hC hR hK fxX0_31_X0 0 (lx_0 S) rfl dX0_print_46 ?_
        refine vv_getf hC hR hK fxX0_183_X3 1000 (lx_1000 S) rfl dX0_print_49 ?_
        refine vv_iload_n hC dX0_print_52 rfl 0 rfl ?_
        refine vv_aload_n hC dX0_print_53 rfl 1 rfl ?_
        refine vv_getf hC hR hK fxX0_20_X0 0 (lx_0 S) rfl dX0_print_54 ?_
        refine vv_aload_n hC dX0_print_57 rfl 1 rfl ?_
        refine vv_getf hC hR hK fxX0_31_X0 0 (lx_0 S) rfl dX0_print_58 ?_
        refine vv_getf hC hR hK fxX0_164_X3 1000 (lx_1000 S) rfl dX0_print_61 ?_
        refine vv_iload_n hC dX0_print_64 rfl 2 rfl ?_
        obtain ⟨hin112, h⟩ := h
        refine vv_iald hC hR hK 1001 (lx_1001 S) hin112 dX0_print_65 ?_
        refine vv_callVi hC hR hK hRo hRm [.int (μ6.1 1001 v1.toNatClampNeg)] [.int x8, .ref (ad 1005)] (met_X1_turn (vL C) D ac ad S hLay (μ6.1 1001 v1.toNatClampNeg) μ6 _ h) gxX0_195 mf_X1_turn rfl (lx_104 S) rfl rfl rfl rfl dX0_print_66 (fun r10 μ9 h => ?_)
        obtain ⟨hin113, h⟩ := h
        refine vv_iast hC hR hK 1005 (lx_1005 S) hin113 dX0_print_69 ?_
        refine vv_st (fun y e => ?_)
        obtain ⟨μ11, _⟩ := y
        have eμ11 := congrArg Prod.fst e
        clear e
        replace h := h μ11 eμ11
        refine vv_aload_n hC dX0_print_70 rfl 1 rfl ?_
        refine vv_getf hC hR hK fxX0_31_X0 0 (lx_0 S) rfl dX0_print_71 ?_
        refine vv_getf hC hR hK fxX0_186_X3 1000 (lx_1000 S) rfl dX0_print_74 ?_
        refine vv_iload_n hC dX0_print_77 rfl 0 rfl ?_
        refine vv_iload_n hC dX0_print_78 rfl 2 rfl ?_
        obtain ⟨hin114, h⟩ := h
        refine vv_iast hC hR hK 1006 (lx_1006 S) hin114 dX0_print_79 ?_
        refine vv_st (fun y e => ?_)
        obtain ⟨μ12, _⟩ := y
        have eμ12 := congrArg Prod.fst e
        clear e
        replace h := h μ12 eμ12
        refine vv_aload_n hC dX0_print_80 rfl 1 rfl ?_
        refine vv_getf hC hR hK fxX0_31_X0 0 (lx_0 S) rfl dX0_print_81 ?_
        refine vv_getf hC hR hK fxX0_189_X3 1000 (lx_1000 S) rfl dX0_print_84 ?_
        refine vv_iload_n hC dX0_print_87 rfl 0 rfl ?_
        refine vv_aload_n hC dX0_print_88 rfl 1 rfl ?_
        refine vv_getf hC hR hK fxX0_31_X0 0 (lx_0 S) rfl dX0_print_89 ?_
        refine vv_getf hC hR hK fxX0_197_X3 1000 (lx_1000 S) rfl dX0_print_92 ?_
        obtain ⟨hin115, h⟩ := h
        refine vv_iast hC hR hK 1007 (lx_1007 S) hin115 dX0_print_95 ?_
        refine vv_st (fun y e => ?_)
        obtain ⟨μ13, _⟩ := y
        have eμ13 := congrArg Prod.fst e
        clear e
        replace h := h μ13 eμ13
        refine vv_aload_n hC dX0_print_96 rfl 1 rfl ?_
        refine vv_getf hC hR hK fxX0_31_X0 0 (lx_0 S) rfl dX0_print_97 ?_
        refine vv_dup hC dX0_print_100 rfl ?_
        refine vv_getf hC hR hK fxX0_220_X3 1000 (lx_1000 S) rfl dX0_print_101 ?_
        refine vv_iconst hC dX0_print_104 xic_1 ?_
        refine vv_isub hC dX0_print_105 ?_
        refine vv_puti hC hR hK fxX0_220_X3 1000 (lx_1000 S) rfl rfl rfl dX0_print_106 ?_
        refine vv_st (fun y e => ?_)
        obtain ⟨μ14, _⟩ := y
        have eμ14 := congrArg Prod.fst e
        clear e
        replace h := h μ14 eμ14
        refine vv_aload_n hC dX0_print_109 rfl 1 rfl ?_
        refine vv_getf hC hR hK fxX0_31_X0 0 (lx_0 S) rfl dX0_print_110 ?_
        refine vv_dup hC dX0_print_113 rfl ?_
        refine vv_getf hC hR hK fxX0_180_X3 1000 (lx_1000 S) rfl dX0_print_114 ?_
        refine vv_iconst hC dX0_print_117 xic_1 ?_
        refine vv_iadd hC dX0_print_118 ?_
        refine vv_puti hC hR hK fxX0_180_X3 1000 (lx_1000 S) rfl rfl rfl dX0_print_119 ?_
        refine vv_st (fun y e => ?_)
        obtain ⟨μ15, _⟩ := y
        have eμ15 := congrArg Prod.fst e
        clear e
        replace h := h μ15 eμ15
        refine vv_iload_n hC dX0_print_122 rfl 0 rfl ?_
        exact vv_iret hC hM dX0_print_123 h
      · replace h := h.2 c5
        refine vv_iconst hC dX0_print_31 xic_m1 ?_
        exact vv_iret hC hM dX0_print_32 h
def w_X0_isMark (S : XS) (v1 : Int32) (μ : WS) (Q : Int32 → WS → Prop) : Prop := (w_X0_isIn S v1 0 ((μ.1 104 2) - 1) μ (fun r2 μ1 => isB r2 ∧ Q r2 μ1))
abbrev rm_X0_isMark : Room := { frames := 1, cells := 0, slots := 0, locals := 22 }
theorem mf_X0_isMark : MFact yX0_isMark 1 rm_X0_isMark := ⟨by decide +kernel, rfl, rfl⟩
set_option maxHeartbeats 4000000 in
theorem met_X0_isMark (l : Launch) (D : va_G) (ac : Nat → ClassId) (ad : Nat → Nat) (S : XS) (hLay : LayOk ad (knX S)) (v1 : Int32) (μ : WS) (Q : Int32 → WS → Prop) (h : w_X0_isMark S v1 μ Q) : CMet l yX0_isMark cX0_isMark 2 (some .boolean) rm_X0_isMark D ac ad (knX S) (ExX D ac ad S) [.ref (ad 0), .int v1] μ (qI Q) := by
  refine vv_met (lv := [(0, .ref (ad 0)), (1, .int v1)]) (by decide) hLay exX_ok (Nat.le_of_ble_eq_true rfl) rfl ⟨rfl, rfl⟩ (fun C hC hK hRm hLl hR hM => ?_)
  subst hLl
  have hRo : RoomOk (HPW D ac ad (knX S) (ExX D ac ad S) (vS C)) (vR C) := HPW.room
  unfold w_X0_isMark at h
  refine vv_iload_n hC dX0_isMark_0 rfl 1 rfl ?_
  refine vv_iconst hC dX0_isMark_1 xic_0 ?_
  refine vv_aload_n hC dX0_isMark_2 rfl 0 rfl ?_
  refine vv_getf hC hR hK fxX0_20_X0 0 (lx_0 S) rfl dX0_isMark_3 ?_
  refine vv_getf hC hR hK fxX0_147_X1 104 (lx_104 S) rfl dX0_isMark_6 ?_
  refine vv_iconst hC dX0_isMark_9 xic_1 ?_
  refine vv_isub hC dX0_isMark_10 ?_
  refine vv_callSi hC hR hK hRo hRm [.int v1, .int 0, .int ((μ.1 104 2) - 1)] [] (met_X0_isIn (vL C) D ac ad S hLay v1 0 ((μ.1 104 2) - 1) μ _ h) gxX0_150 mf_X0_isIn rfl rfl rfl dX0_isMark_11 (fun r2 μ1 h => ?_)
  exact vv_zret hC hM dX0_isMark_14 h.1 h.2
def w_X0_crack (S : XS) (v1 : Int32) (v2 : Int32) (μ : WS) (Q : Int32 → WS → Prop) : Prop := (w_X0_isSeal S v1 μ (fun r2 μ1 => ((r2 = 0) → Q 0 μ1) ∧ ((¬ r2 = 0) → (w_X0_isMark S v2 μ1 (fun r5 μ4 => ((r5 = 0) → Q 0 μ4) ∧ ((¬ r5 = 0) → (vp_in v1 24 ∧ ((¬ ((μ4.1 1001 v1.toNatClampNeg) >>> (v2 &&& 31)) &&& 1 = 0) → (w_X0_act S μ4 (fun μ8 => (vp_in v1 24 ∧ (vp_in v1 24 ∧ (∀ μ10 : WS, μ10 = wset μ8 1001 v1.toNatClampNeg ((μ8.1 1001 v1.toNatClampNeg) &&& ((1 <<< (v2 &&& 31)) ^^^ (-1))) → Q 1 μ10)))))) ∧ ((((μ4.1 1001 v1.toNatClampNeg) >>> (v2 &&& 31)) &&& 1 = 0) → Q 0 μ4))))))))
abbrev rm_X0_crack : Room := { frames := 3, cells := 0, slots := 0, locals := 106 }
theorem mf_X0_crack : MFact yX0_crack 2 rm_X0_crack := ⟨by decide +kernel, rfl, rfl⟩
set_option maxHeartbeats 4000000 in
theorem met_X0_crack (l : Launch) (D : va_G) (ac : Nat → ClassId) (ad : Nat → Nat) (S : XS) (hLay : LayOk ad (knX S)) (v1 : Int32) (v2 : Int32) (μ : WS) (Q : Int32 → WS → Prop) (h : w_X0_crack S v1 v2 μ Q) : CMet l yX0_crack cX0_crack 3 (some .boolean) rm_X0_crack D ac ad (knX S) (ExX D ac ad S) [.ref (ad 0), .int v1, .int v2] μ (qI Q) := by
  refine vv_met (lv := [(0, .ref (ad 0)), (1, .int v1), (2, .int v2)]) (by decide) hLay exX_ok (Nat.le_of_ble_eq_true rfl) rfl ⟨rfl, rfl⟩ (fun C hC hK hRm hLl hR hM => ?_)
  subst hLl
  have hRo : RoomOk (HPW D ac ad (knX S) (ExX D ac ad S) (vS C)) (vR C) := HPW.room
  unfold w_X0_crack at h
  refine vv_aload_n hC dX0_crack_0 rfl 0 rfl ?_
  refine vv_iload_n hC dX0_crack_1 rfl 1 rfl ?_
  refine vv_callVi hC hR hK hRo hRm [.int v1] [] (met_X0_isSeal (vL C) D ac ad S hLay v1 μ _ h) gxX0_160 mf_X0_isSeal rfl (lx_0 S) rfl rfl rfl rfl dX0_crack_2 (fun r2 μ1 h => ?_)
  refine vv_if_eq (tgt := 32) hC dX0_crack_5 rfl (fun c3 => ?_) (fun c3 => ?_)
  · replace h := h.1 c3
    refine vv_iconst hC dX0_crack_32 xic_0 ?_
    exact vv_zret hC hM dX0_crack_33 isB_0 h
  · replace h := h.2 c3
    refine vv_aload_n hC dX0_crack_8 rfl 0 rfl ?_
    refine vv_iload_n hC dX0_crack_9 rfl 2 rfl ?_
    refine vv_callVi hC hR hK hRo hRm [.int v2] [] (met_X0_isMark (vL C) D ac ad S hLay v2 μ1 _ h) gxX0_229 mf_X0_isMark rfl (lx_0 S) rfl rfl rfl rfl dX0_crack_10 (fun r5 μ4 h => ?_)
    refine vv_if_eq (tgt := 32) hC dX0_crack_13 rfl (fun c6 => ?_) (fun c6 => ?_)
    · replace h := h.1 c6
      refine vv_iconst hC dX0_crack_32 xic_0 ?_
      exact vv_zret hC hM dX0_crack_33 isB_0 h
    · replace h := h.2 c6
      refine vv_aload_n hC dX0_crack_16 rfl 0 rfl ?_
      refine vv_getf hC hR hK fxX0_31_X0 0 (lx_0 S) rfl dX0_crack_17 ?_
      refine vv_getf hC hR hK fxX0_164_X3 1000 (lx_1000 S) rfl dX0_crack_20 ?_
      refine vv_iload_n hC dX0_crack_23 rfl 1 rfl ?_
      obtain ⟨hin116, h⟩ := h
      refine vv_iald hC hR hK 1001 (lx_1001 S) hin116 dX0_crack_24 ?_
      refine vv_iload_n hC dX0_crack_25 rfl 2 rfl ?_
      refine vv_ishr hC dX0_crack_26 ?_
      refine vv_iconst hC dX0_crack_27 xic_1 ?_
      refine vv_iand hC dX0_crack_28 ?_
      refine vv_if_ne (tgt := 34) hC dX0_crack_29 rfl (fun c7 => ?_) (fun c7 => ?_)
      · replace h := h.1 c7
        refine vv_aload_n hC dX0_crack_34 rfl 0 rfl ?_
        refine vv_callVv hC hR hK hRo hRm [] [] (met_X0_act (vL C) D ac ad S hLay  μ4 _ h) gxX0_223 mf_X0_act rfl (lx_0 S) rfl rfl rfl rfl dX0_crack_35 (fun μ8 h => ?_)
        refine vv_aload_n hC dX0_crack_38 rfl 0 rfl ?_
        refine vv_getf hC hR hK fxX0_31_X0 0 (lx_0 S) rfl dX0_crack_39 ?_
        refine vv_getf hC hR hK fxX0_164_X3 1000 (lx_1000 S) rfl dX0_crack_42 ?_
        refine vv_iload_n hC dX0_crack_45 rfl 1 rfl ?_
        refine vv_dup2 hC dX0_crack_46 rfl rfl ?_
        obtain ⟨hin117, h⟩ := h
        refine vv_iald hC hR hK 1001 (lx_1001 S) hin117 dX0_crack_47 ?_
        refine vv_iconst hC dX0_crack_48 xic_1 ?_
        refine vv_iload_n hC dX0_crack_49 rfl 2 rfl ?_
        refine vv_ishl hC dX0_crack_50 ?_
        refine vv_iconst hC dX0_crack_51 xic_m1 ?_
        refine vv_ixor hC dX0_crack_52 ?_
        refine vv_iand hC dX0_crack_53 ?_
        obtain ⟨hin118, h⟩ := h
        refine vv_iast hC hR hK 1001 (lx_1001 S) hin118 dX0_crack_54 ?_
        refine vv_st (fun y e => ?_)
        obtain ⟨μ10, _⟩ := y
        have eμ10 := congrArg Prod.fst e
        clear e
        replace h := h μ10 eμ10
        refine vv_iconst hC dX0_crack_55 xic_1 ?_
        exact vv_zret hC hM dX0_crack_56 isB_1 h
      · replace h := h.2 c7
        refine vv_iconst hC dX0_crack_32 xic_0 ?_
        exact vv_zret hC hM dX0_crack_33 isB_0 h
def w_X0_year (S : XS) (μ : WS) (Q : Int32 → WS → Prop) : Prop := ((¬ μ.1 1000 10 = 999) → (w_X0_act S μ (fun μ2 => (∀ μ4 : WS, μ4 = wset μ2 1000 10 ((μ2.1 1000 10) + 1) → Q (μ4.1 1000 10) μ4)))) ∧ ((μ.1 1000 10 = 999) → Q (-1) μ)
abbrev rm_X0_year : Room := { frames := 3, cells := 0, slots := 0, locals := 106 }
theorem mf_X0_year : MFact yX0_year 0 rm_X0_year := ⟨by decide +kernel, rfl, rfl⟩
set_option maxHeartbeats 4000000 in
theorem met_X0_year (l : Launch) (D : va_G) (ac : Nat → ClassId) (ad : Nat → Nat) (S : XS) (hLay : LayOk ad (knX S)) (μ : WS) (Q : Int32 → WS → Prop) (h : w_X0_year S  μ Q) : CMet l yX0_year cX0_year 1 (some .int) rm_X0_year D ac ad (knX S) (ExX D ac ad S) [.ref (ad 0)] μ (qI Q) := by
  refine vv_met (lv := [(0, .ref (ad 0))]) (by decide) hLay exX_ok (Nat.le_of_ble_eq_true rfl) rfl ⟨rfl, rfl⟩ (fun C hC hK hRm hLl hR hM => ?_)
  subst hLl
  have hRo : RoomOk (HPW D ac ad (knX S) (ExX D ac ad S) (vS C)) (vR C) := HPW.room
  unfold w_X0_year at h
  refine vv_aload_n hC dX0_year_0 rfl 0 rfl ?_
  refine vv_getf hC hR hK fxX0_31_X0 0 (lx_0 S) rfl dX0_year_1 ?_
  refine vv_getf hC hR hK fxX0_197_X3 1000 (lx_1000 S) rfl dX0_year_4 ?_
  refine vv_sipush hC dX0_year_7 xsp_999 ?_
  refine vv_icmp_ne (tgt := 15) hC dX0_year_10 rfl (fun c1 => ?_) (fun c1 => ?_)
  · replace h := h.1 c1
    refine vv_aload_n hC dX0_year_15 rfl 0 rfl ?_
    refine vv_callVv hC hR hK hRo hRm [] [] (met_X0_act (vL C) D ac ad S hLay  μ _ h) gxX0_223 mf_X0_act rfl (lx_0 S) rfl rfl rfl rfl dX0_year_16 (fun μ2 h => ?_)
    refine vv_aload_n hC dX0_year_19 rfl 0 rfl ?_
    refine vv_getf hC hR hK fxX0_31_X0 0 (lx_0 S) rfl dX0_year_20 ?_
    refine vv_dup hC dX0_year_23 rfl ?_
    refine vv_getf hC hR hK fxX0_197_X3 1000 (lx_1000 S) rfl dX0_year_24 ?_
    refine vv_iconst hC dX0_year_27 xic_1 ?_
    refine vv_iadd hC dX0_year_28 ?_
    refine vv_puti hC hR hK fxX0_197_X3 1000 (lx_1000 S) rfl rfl rfl dX0_year_29 ?_
    refine vv_st (fun y e => ?_)
    obtain ⟨μ4, _⟩ := y
    have eμ4 := congrArg Prod.fst e
    clear e
    replace h := h μ4 eμ4
    refine vv_aload_n hC dX0_year_32 rfl 0 rfl ?_
    refine vv_getf hC hR hK fxX0_31_X0 0 (lx_0 S) rfl dX0_year_33 ?_
    refine vv_getf hC hR hK fxX0_197_X3 1000 (lx_1000 S) rfl dX0_year_36 ?_
    exact vv_iret hC hM dX0_year_39 h
  · replace h := h.2 c1
    refine vv_iconst hC dX0_year_13 xic_m1 ?_
    exact vv_iret hC hM dX0_year_14 h
def w_X0_exchange (S : XS) (a1 : Nat) (μ : WS) (Q : WS → Prop) : Prop := (w_X3_copy S 1008 a1 μ (fun r2 μ1 => ((isChestR a1) ∧ (w_X3_copy S a1 1000 μ1 (fun r4 μ3 => (w_X3_copy S 1000 1008 μ3 (fun r6 μ5 => Q μ5)))))))
abbrev rm_X0_exchange : Room := { frames := 2, cells := 0, slots := 0, locals := 85 }
theorem mf_X0_exchange : MFact yX0_exchange 1 rm_X0_exchange := ⟨by decide +kernel, rfl, rfl⟩
set_option maxHeartbeats 4000000 in
theorem met_X0_exchange (l : Launch) (D : va_G) (ac : Nat → ClassId) (ad : Nat → Nat) (S : XS) (hLay : LayOk ad (knX S)) (a1 : Nat) (μ : WS) (Q : WS → Prop) (h : w_X0_exchange S a1 μ Q) : CMet l yX0_exchange cX0_exchange 2 none rm_X0_exchange D ac ad (knX S) (ExX D ac ad S) [.ref (ad 0), .ref (ad a1)] μ (qV Q) := by
  refine vv_met (lv := [(0, .ref (ad 0)), (1, .ref (ad a1))]) (by decide) hLay exX_ok (Nat.le_of_ble_eq_true rfl) rfl ⟨rfl, rfl⟩ (fun C hC hK hRm hLl hR hM => ?_)
  subst hLl
  have hRo : RoomOk (HPW D ac ad (knX S) (ExX D ac ad S) (vS C)) (vR C) := HPW.room
  unfold w_X0_exchange at h
  refine vv_aload_n hC dX0_exchange_0 rfl 0 rfl ?_
  refine vv_getf hC hR hK fxX0_35_X0 0 (lx_0 S) rfl dX0_exchange_1 ?_
  refine vv_aload_n hC dX0_exchange_4 rfl 1 rfl ?_
  refine vv_callVr hC hR hK hRo hRm [.ref (ad a1)] [] (met_X3_copy (vL C) D ac ad S hLay 1008 a1 μ _ h) gxX0_216 mf_X3_copy rfl (lx_1008 S) rfl rfl rfl rfl dX0_exchange_5 (fun r2 μ1 h => ?_)
  refine vv_pop hC dX0_exchange_8 rfl ?_
  refine vv_aload_n hC dX0_exchange_9 rfl 1 rfl ?_
  refine vv_aload_n hC dX0_exchange_10 rfl 0 rfl ?_
  refine vv_getf hC hR hK fxX0_31_X0 0 (lx_0 S) rfl dX0_exchange_11 ?_
  obtain ⟨hk119, h⟩ := h
  refine vv_callVr hC hR hK hRo hRm [.ref (ad 1000)] [] (met_X3_copy (vL C) D ac ad S hLay a1 1000 μ1 _ h) gxX0_216 mf_X3_copy rfl (kx_chest hk119) rfl rfl rfl rfl dX0_exchange_14 (fun r4 μ3 h => ?_)
  refine vv_pop hC dX0_exchange_17 rfl ?_
  refine vv_aload_n hC dX0_exchange_18 rfl 0 rfl ?_
  refine vv_getf hC hR hK fxX0_31_X0 0 (lx_0 S) rfl dX0_exchange_19 ?_
  refine vv_aload_n hC dX0_exchange_22 rfl 0 rfl ?_
  refine vv_getf hC hR hK fxX0_35_X0 0 (lx_0 S) rfl dX0_exchange_23 ?_
  refine vv_callVr hC hR hK hRo hRm [.ref (ad 1008)] [] (met_X3_copy (vL C) D ac ad S hLay 1000 1008 μ3 _ h) gxX0_216 mf_X3_copy rfl (lx_1000 S) rfl rfl rfl rfl dX0_exchange_26 (fun r6 μ5 h => ?_)
  refine vv_pop hC dX0_exchange_29 rfl ?_
  exact vv_vret hC hM dX0_exchange_30 h
def w_X0_undo (S : XS) (μ : WS) (Q : Int32 → WS → Prop) : Prop := ((¬ μ.1 0 9 = 0) → (∀ μ2 : WS, μ2 = wset μ 0 9 ((μ.1 0 9) - 1) → (∀ μ3 : WS, μ3 = wset μ2 0 10 ((μ2.1 0 10) + 1) → (vp_in (μ3.1 0 9) 40 ∧ (∃ b4 : Nat, μ3.2.2 108 (μ3.1 0 9).toNatClampNeg = some b4 ∧ (w_X0_exchange S b4 μ3 (fun μ5 => Q 1 μ5))))))) ∧ ((μ.1 0 9 = 0) → Q 0 μ)
abbrev rm_X0_undo : Room := { frames := 3, cells := 0, slots := 0, locals := 106 }
theorem mf_X0_undo : MFact yX0_undo 0 rm_X0_undo := ⟨by decide +kernel, rfl, rfl⟩
set_option maxHeartbeats 4000000 in
theorem met_X0_undo (l : Launch) (D : va_G) (ac : Nat → ClassId) (ad : Nat → Nat) (S : XS) (hLay : LayOk ad (knX S)) (μ : WS) (Q : Int32 → WS → Prop) (h : w_X0_undo S  μ Q) : CMet l yX0_undo cX0_undo 1 (some .boolean) rm_X0_undo D ac ad (knX S) (ExX D ac ad S) [.ref (ad 0)] μ (qI Q) := by
  refine vv_met (lv := [(0, .ref (ad 0))]) (by decide) hLay exX_ok (Nat.le_of_ble_eq_true rfl) rfl ⟨rfl, rfl⟩ (fun C hC hK hRm hLl hR hM => ?_)
  subst hLl
  have hRo : RoomOk (HPW D ac ad (knX S) (ExX D ac ad S) (vS C)) (vR C) := HPW.room
  unfold w_X0_undo at h
  refine vv_aload_n hC dX0_undo_0 rfl 0 rfl ?_
  refine vv_getf hC hR hK fxX0_115_X0 0 (lx_0 S) rfl dX0_undo_1 ?_
  refine vv_if_ne (tgt := 9) hC dX0_undo_4 rfl (fun c1 => ?_) (fun c1 => ?_)
  · replace h := h.1 c1
    refine vv_aload_n hC dX0_undo_9 rfl 0 rfl ?_
    refine vv_dup hC dX0_undo_10 rfl ?_
    refine vv_getf hC hR hK fxX0_115_X0 0 (lx_0 S) rfl dX0_undo_11 ?_
    refine vv_iconst hC dX0_undo_14 xic_1 ?_
    refine vv_isub hC dX0_undo_15 ?_
    refine vv_puti hC hR hK fxX0_115_X0 0 (lx_0 S) rfl rfl rfl dX0_undo_16 ?_
    refine vv_st (fun y e => ?_)
    obtain ⟨μ2, _⟩ := y
    have eμ2 := congrArg Prod.fst e
    clear e
    replace h := h μ2 eμ2
    refine vv_aload_n hC dX0_undo_19 rfl 0 rfl ?_
    refine vv_dup hC dX0_undo_20 rfl ?_
    refine vv_getf hC hR hK fxX0_118_X0 0 (lx_0 S) rfl dX0_undo_21 ?_
    refine vv_iconst hC dX0_undo_24 xic_1 ?_
    refine vv_iadd hC dX0_undo_25 ?_
    refine vv_puti hC hR hK fxX0_118_X0 0 (lx_0 S) rfl rfl rfl dX0_undo_26 ?_
    refine vv_st (fun y e => ?_)
    obtain ⟨μ3, _⟩ := y
    have eμ3 := congrArg Prod.fst e
    clear e
    replace h := h μ3 eμ3
    refine vv_aload_n hC dX0_undo_29 rfl 0 rfl ?_
    refine vv_aload_n hC dX0_undo_30 rfl 0 rfl ?_
    refine vv_getf hC hR hK fxX0_38_X0 0 (lx_0 S) rfl dX0_undo_31 ?_
    refine vv_aload_n hC dX0_undo_34 rfl 0 rfl ?_
    refine vv_getf hC hR hK fxX0_115_X0 0 (lx_0 S) rfl dX0_undo_35 ?_
    obtain ⟨hin120, h⟩ := h
    obtain ⟨b4, hb121, h⟩ := h
    refine vv_aald hC hR hK 108 (t := 5) rfl (by decide) rfl (lx_108 S) hin120 hb121 dX0_undo_38 ?_
    refine vv_callVv hC hR hK hRo hRm [.ref (ad b4)] [] (met_X0_exchange (vL C) D ac ad S hLay b4 μ3 _ h) gxX0_232 mf_X0_exchange rfl (lx_0 S) rfl rfl rfl rfl dX0_undo_39 (fun μ5 h => ?_)
    refine vv_iconst hC dX0_undo_42 xic_1 ?_
    exact vv_zret hC hM dX0_undo_43 isB_1 h
  · replace h := h.2 c1
    refine vv_iconst hC dX0_undo_7 xic_0 ?_
    exact vv_zret hC hM dX0_undo_8 isB_0 h
def w_X0_redo (S : XS) (μ : WS) (Q : Int32 → WS → Prop) : Prop := ((¬ μ.1 0 10 = 0) → (vp_in (μ.1 0 9) 40 ∧ (∃ b2 : Nat, μ.2.2 108 (μ.1 0 9).toNatClampNeg = some b2 ∧ (w_X0_exchange S b2 μ (fun μ3 => (∀ μ5 : WS, μ5 = wset μ3 0 9 ((μ3.1 0 9) + 1) → (∀ μ6 : WS, μ6 = wset μ5 0 10 ((μ5.1 0 10) - 1) → Q 1 μ6))))))) ∧ ((μ.1 0 10 = 0) → Q 0 μ)
abbrev rm_X0_redo : Room := { frames := 3, cells := 0, slots := 0, locals := 106 }
theorem mf_X0_redo : MFact yX0_redo 0 rm_X0_redo := ⟨by decide +kernel, rfl, rfl⟩
set_option maxHeartbeats 4000000 in
theorem met_X0_redo (l : Launch) (D : va_G) (ac : Nat → ClassId) (ad : Nat → Nat) (S : XS) (hLay : LayOk ad (knX S)) (μ : WS) (Q : Int32 → WS → Prop) (h : w_X0_redo S  μ Q) : CMet l yX0_redo cX0_redo 1 (some .boolean) rm_X0_redo D ac ad (knX S) (ExX D ac ad S) [.ref (ad 0)] μ (qI Q) := by
  refine vv_met (lv := [(0, .ref (ad 0))]) (by decide) hLay exX_ok (Nat.le_of_ble_eq_true rfl) rfl ⟨rfl, rfl⟩ (fun C hC hK hRm hLl hR hM => ?_)
  subst hLl
  have hRo : RoomOk (HPW D ac ad (knX S) (ExX D ac ad S) (vS C)) (vR C) := HPW.room
  unfold w_X0_redo at h
  refine vv_aload_n hC dX0_redo_0 rfl 0 rfl ?_
  refine vv_getf hC hR hK fxX0_118_X0 0 (lx_0 S) rfl dX0_redo_1 ?_
  refine vv_if_ne (tgt := 9) hC dX0_redo_4 rfl (fun c1 => ?_) (fun c1 => ?_)
  · replace h := h.1 c1
    refine vv_aload_n hC dX0_redo_9 rfl 0 rfl ?_
    refine vv_aload_n hC dX0_redo_10 rfl 0 rfl ?_
    refine vv_getf hC hR hK fxX0_38_X0 0 (lx_0 S) rfl dX0_redo_11 ?_
    refine vv_aload_n hC dX0_redo_14 rfl 0 rfl ?_
    refine vv_getf hC hR hK fxX0_115_X0 0 (lx_0 S) rfl dX0_redo_15 ?_
    obtain ⟨hin122, h⟩ := h
    obtain ⟨b2, hb123, h⟩ := h
    refine vv_aald hC hR hK 108 (t := 5) rfl (by decide) rfl (lx_108 S) hin122 hb123 dX0_redo_18 ?_
    refine vv_callVv hC hR hK hRo hRm [.ref (ad b2)] [] (met_X0_exchange (vL C) D ac ad S hLay b2 μ _ h) gxX0_232 mf_X0_exchange rfl (lx_0 S) rfl rfl rfl rfl dX0_redo_19 (fun μ3 h => ?_)
    refine vv_aload_n hC dX0_redo_22 rfl 0 rfl ?_
    refine vv_dup hC dX0_redo_23 rfl ?_
    refine vv_getf hC hR hK fxX0_115_X0 0 (lx_0 S) rfl dX0_redo_24 ?_
    refine vv_iconst hC dX0_redo_27 xic_1 ?_
    refine vv_iadd hC dX0_redo_28 ?_
    refine vv_puti hC hR hK fxX0_115_X0 0 (lx_0 S) rfl rfl rfl dX0_redo_29 ?_
    refine vv_st (fun y e => ?_)
    obtain ⟨μ5, _⟩ := y
    have eμ5 := congrArg Prod.fst e
    clear e
    replace h := h μ5 eμ5
    refine vv_aload_n hC dX0_redo_32 rfl 0 rfl ?_
    refine vv_dup hC dX0_redo_33 rfl ?_
    refine vv_getf hC hR hK fxX0_118_X0 0 (lx_0 S) rfl dX0_redo_34 ?_
    refine vv_iconst hC dX0_redo_37 xic_1 ?_
    refine vv_isub hC dX0_redo_38 ?_
    refine vv_puti hC hR hK fxX0_118_X0 0 (lx_0 S) rfl rfl rfl dX0_redo_39 ?_
    refine vv_st (fun y e => ?_)
    obtain ⟨μ6, _⟩ := y
    have eμ6 := congrArg Prod.fst e
    clear e
    replace h := h μ6 eμ6
    refine vv_iconst hC dX0_redo_42 xic_1 ?_
    exact vv_zret hC hM dX0_redo_43 isB_1 h
  · replace h := h.2 c1
    refine vv_iconst hC dX0_redo_7 xic_0 ?_
    exact vv_zret hC hM dX0_redo_8 isB_0 h
def w_X0_castOf (S : XS) (v1 : Int32) (v2 : Int32) (v3 : Int32) (μ : WS) (Q : Int32 → WS → Prop) : Prop := (w_X1_cast S v1 v2 v3 (μ.1 1000 10) 0 μ (fun r2 μ1 => Q r2 μ1))
abbrev rm_X0_castOf : Room := { frames := 1702, cells := 0, slots := 0, locals := 51060 }
theorem mf_X0_castOf : MFact yX0_castOf 3 rm_X0_castOf := ⟨by decide +kernel, rfl, rfl⟩
set_option maxHeartbeats 4000000 in
theorem met_X0_castOf (l : Launch) (D : va_G) (ac : Nat → ClassId) (ad : Nat → Nat) (S : XS) (hLay : LayOk ad (knX S)) (v1 : Int32) (v2 : Int32) (v3 : Int32) (μ : WS) (Q : Int32 → WS → Prop) (h : w_X0_castOf S v1 v2 v3 μ Q) : CMet l yX0_castOf cX0_castOf 4 (some .int) rm_X0_castOf D ac ad (knX S) (ExX D ac ad S) [.ref (ad 0), .int v1, .int v2, .int v3] μ (qI Q) := by
  refine vv_met (lv := [(0, .ref (ad 0)), (1, .int v1), (2, .int v2), (3, .int v3)]) (by decide) hLay exX_ok (Nat.le_of_ble_eq_true rfl) rfl ⟨rfl, rfl⟩ (fun C hC hK hRm hLl hR hM => ?_)
  subst hLl
  have hRo : RoomOk (HPW D ac ad (knX S) (ExX D ac ad S) (vS C)) (vR C) := HPW.room
  unfold w_X0_castOf at h
  refine vv_aload_n hC dX0_castOf_0 rfl 0 rfl ?_
  refine vv_getf hC hR hK fxX0_20_X0 0 (lx_0 S) rfl dX0_castOf_1 ?_
  refine vv_iload_n hC dX0_castOf_4 rfl 1 rfl ?_
  refine vv_iload_n hC dX0_castOf_5 rfl 2 rfl ?_
  refine vv_iload_n hC dX0_castOf_6 rfl 3 rfl ?_
  refine vv_aload_n hC dX0_castOf_7 rfl 0 rfl ?_
  refine vv_getf hC hR hK fxX0_31_X0 0 (lx_0 S) rfl dX0_castOf_8 ?_
  refine vv_getf hC hR hK fxX0_197_X3 1000 (lx_1000 S) rfl dX0_castOf_11 ?_
  refine vv_iconst hC dX0_castOf_14 xic_0 ?_
  refine vv_callVi hC hR hK hRo hRm [.int v1, .int v2, .int v3, .int (μ.1 1000 10), .int 0] [] (met_X1_cast (vL C) D ac ad S hLay v1 v2 v3 (μ.1 1000 10) 0 μ _ h) gxX0_200 mf_X1_cast rfl (lx_104 S) rfl rfl rfl rfl dX0_castOf_15 (fun r2 μ1 h => ?_)
  exact vv_iret hC hM dX0_castOf_18 h
def w_X0_whose_70 (S : XS) (P31 : Int32 → Int32 → Int32 → Int32 → Int32 → WS → Prop) (s0 : Int32) (s1 : Int32) (v1 : Int32) (v2 : Int32) (v3 : Int32) (v5 : Int32) (μ : WS) (Q : Int32 → WS → Prop) : Prop := (∀ x16 : Int32, x16 = s1 ||| s0 → P31 v1 v2 v3 x16 (v5 + 1) μ)
def w_X0_whose_31b (S : XS) (P31 : Int32 → Int32 → Int32 → Int32 → Int32 → WS → Prop) (v1 : Int32) (v2 : Int32) (v3 : Int32) (v4 : Int32) (v5 : Int32) (μ : WS) (Q : Int32 → WS → Prop) : Prop := (w_X0_hands S μ (fun r11 μ10 => ((r11 ≤ v5) → Q v4 μ10) ∧ ((¬ r11 ≤ v5) → (vp_in v1 24 ∧ (w_X0_castOf S (μ10.1 1001 v1.toNatClampNeg) v5 v2 μ10 (fun r14 μ13 => ((¬ r14 = v3) → w_X0_whose_70 S P31 0 v4 v1 v2 v3 v5 μ13 Q) ∧ ((r14 = v3) → w_X0_whose_70 S P31 (1 <<< (v5 &&& 31)) v4 v1 v2 v3 v5 μ13 Q)))))))
def w_X0_whose_31 (S : XS) (v1 : Int32) (v2 : Int32) (v3 : Int32) (v4 : Int32) (v5 : Int32) (μ : WS) (Q : Int32 → WS → Prop) : Prop := ∀ P31 : Int32 → Int32 → Int32 → Int32 → Int32 → WS → Prop, (∀ (v1 : Int32) (v2 : Int32) (v3 : Int32) (v4 : Int32) (v5 : Int32) (μ : WS), w_X0_whose_31b S  P31 v1 v2 v3 v4 v5 μ Q → P31 v1 v2 v3 v4 v5 μ) → P31 v1 v2 v3 v4 v5 μ
def w_X0_whose (S : XS) (v1 : Int32) (v2 : Int32) (v3 : Int32) (μ : WS) (Q : Int32 → WS → Prop) : Prop := (w_X0_isSeal S v1 μ (fun r2 μ1 => ((r2 = 0) → Q (-1) μ1) ∧ ((¬ r2 = 0) → (w_X0_isHeat S v2 μ1 (fun r5 μ4 => ((r5 = 0) → Q (-1) μ4) ∧ ((¬ r5 = 0) → (w_X0_isRow S v3 μ4 (fun r8 μ7 => ((¬ r8 = 0) → w_X0_whose_31 S v1 v2 v3 0 0 μ7 Q) ∧ ((r8 = 0) → Q (-1) μ7)))))))))
abbrev rm_X0_whose : Room := { frames := 1703, cells := 0, slots := 0, locals := 51083 }
theorem mf_X0_whose : MFact yX0_whose 3 rm_X0_whose := ⟨by decide +kernel, rfl, rfl⟩
set_option maxHeartbeats 4000000 in
theorem met_X0_whose (l : Launch) (D : va_G) (ac : Nat → ClassId) (ad : Nat → Nat) (S : XS) (hLay : LayOk ad (knX S)) (v1 : Int32) (v2 : Int32) (v3 : Int32) (μ : WS) (Q : Int32 → WS → Prop) (h : w_X0_whose S v1 v2 v3 μ Q) : CMet l yX0_whose cX0_whose 6 (some .int) rm_X0_whose D ac ad (knX S) (ExX D ac ad S) [.ref (ad 0), .int v1, .int v2, .int v3] μ (qI Q) := by
  refine vv_met (lv := [(0, .ref (ad 0)), (1, .int v1), (2, .int v2), (3, .int v3)]) (by decide) hLay exX_ok (Nat.le_of_ble_eq_true rfl) rfl ⟨rfl, rfl⟩ (fun C hC hK hRm hLl hR hM => ?_)
  subst hLl
  have hRo : RoomOk (HPW D ac ad (knX S) (ExX D ac ad S) (vS C)) (vR C) := HPW.room
  have L70 : ∀ (P31 : Int32 → Int32 → Int32 → Int32 → Int32 → WS → Prop) (h31 : ∀ (v1 : Int32) (v2 : Int32) (v3 : Int32) (v4 : Int32) (v5 : Int32) (μ : WS), P31 v1 v2 v3 v4 v5 μ → VV C 6 (HPW D ac ad (knX S) (ExX D ac ad S) (vS C)) (vQ C (QcW D ac ad (knX S) (qI Q)) 0 0 (inLay ad (knX S))) (μ, ()) 31 [(0, .ref (ad 0)), (1, .int v1), (2, .int v2), (3, .int v3), (4, .int v4), (5, .int v5)] []) (s0 : Int32) (s1 : Int32) (v1 : Int32) (v2 : Int32) (v3 : Int32) (v5 : Int32) (μ : WS), w_X0_whose_70 S P31 s0 s1 v1 v2 v3 v5 μ Q → VV C 6 (HPW D ac ad (knX S) (ExX D ac ad S) (vS C)) (vQ C (QcW D ac ad (knX S) (qI Q)) 0 0 (inLay ad (knX S))) (μ, ()) 70 [(0, .ref (ad 0)), (1, .int v1), (2, .int v2), (3, .int v3), (5, .int v5)] [.int s0, .int s1] := by
    intro P31 h31 s0 s1 v1 v2 v3 v5 μ h
    unfold w_X0_whose_70 at h
    refine vv_ior hC dX0_whose_70 ?_
    refine vv_topi (fun x16 ex16 => ?_)
    replace h := h x16 ex16
    refine vv_istore (lv' := [(4, .int x16), (0, .ref (ad 0)), (1, .int v1), (2, .int v2), (3, .int v3), (5, .int v5)]) hC dX0_whose_71 (by decide) rfl ?_
    refine vv_iinc (pl := 5) (v := v5 + 1) (lv' := [(5, .int (v5 + 1)), (4, .int x16), (0, .ref (ad 0)), (1, .int v1), (2, .int v2), (3, .int v3)]) hC dX0_whose_73 rfl rfl (by decide) rfl ?_
    refine vv_goto (tgt := 31) hC dX0_whose_76 rfl ?_
    refine vv_lv [2, 3, 4, 5, 1, 0] rfl ?_
    exact h31 _ _ _ _ _ _ h
  have L31 : ∀ (v1 : Int32) (v2 : Int32) (v3 : Int32) (v4 : Int32) (v5 : Int32) (μ : WS), w_X0_whose_31 S  v1 v2 v3 v4 v5 μ Q → VV C 6 (HPW D ac ad (knX S) (ExX D ac ad S) (vS C)) (vQ C (QcW D ac ad (knX S) (qI Q)) 0 0 (inLay ad (knX S))) (μ, ()) 31 [(0, .ref (ad 0)), (1, .int v1), (2, .int v2), (3, .int v3), (4, .int v4), (5, .int v5)] [] := by
    intro  v1 v2 v3 v4 v5 μ h
    refine h (fun v1 v2 v3 v4 v5 μ => VV C 6 (HPW D ac ad (knX S) (ExX D ac ad S) (vS C)) (vQ C (QcW D ac ad (knX S) (qI Q)) 0 0 (inLay ad (knX S))) (μ, ()) 31 [(0, .ref (ad 0)), (1, .int v1), (2, .int v2), (3, .int v3), (4, .int v4), (5, .int v5)] []) ?_
    clear h; intro v1 v2 v3 v4 v5 μ h
    have h31 : ∀ (v1 : Int32) (v2 : Int32) (v3 : Int32) (v4 : Int32) (v5 : Int32) (μ : WS), (fun v1 v2 v3 v4 v5 (μ : WS) => VV C 6 (HPW D ac ad (knX S) (ExX D ac ad S) (vS C)) (vQ C (QcW D ac ad (knX S) (qI Q)) 0 0 (inLay ad (knX S))) (μ, ()) 31 [(0, .ref (ad 0)), (1, .int v1), (2, .int v2), (3, .int v3), (4, .int v4), (5, .int v5)] []) v1 v2 v3 v4 v5 μ → VV C 6 (HPW D ac ad (knX S) (ExX D ac ad S) (vS C)) (vQ C (QcW D ac ad (knX S) (qI Q)) 0 0 (inLay ad (knX S))) (μ, ()) 31 [(0, .ref (ad 0)), (1, .int v1), (2, .int v2), (3, .int v3), (4, .int v4), (5, .int v5)] [] := fun _ _ _ _ _ _ h => h
    unfold w_X0_whose_31b at h
    refine vv_iload hC dX0_whose_31 5 rfl ?_
    refine vv_aload_n hC dX0_whose_33 rfl 0 rfl ?_
    refine vv_callVi hC hR hK hRo hRm [] [.int v5] (met_X0_hands (vL C) D ac ad S hLay  μ _ h) gxX0_138 mf_X0_hands rfl (lx_0 S) rfl rfl rfl rfl dX0_whose_34 (fun r11 μ10 h => ?_)
    refine vv_icmp_ge (tgt := 79) hC dX0_whose_37 rfl (fun c12 => ?_) (fun c12 => ?_)
    · replace h := h.1 c12
      refine vv_iload hC dX0_whose_79 4 rfl ?_
      exact vv_iret hC hM dX0_whose_81 h
    · replace h := h.2 c12
      refine vv_iload hC dX0_whose_40 4 rfl ?_
      refine vv_aload_n hC dX0_whose_42 rfl 0 rfl ?_
      refine vv_aload_n hC dX0_whose_43 rfl 0 rfl ?_
      refine vv_getf hC hR hK fxX0_31_X0 0 (lx_0 S) rfl dX0_whose_44 ?_
      refine vv_getf hC hR hK fxX0_164_X3 1000 (lx_1000 S) rfl dX0_whose_47 ?_
      refine vv_iload_n hC dX0_whose_50 rfl 1 rfl ?_
      obtain ⟨hin124, h⟩ := h
      refine vv_iald hC hR hK 1001 (lx_1001 S) hin124 dX0_whose_51 ?_
      refine vv_iload hC dX0_whose_52 5 rfl ?_
      refine vv_iload_n hC dX0_whose_54 rfl 2 rfl ?_
      refine vv_callVi hC hR hK hRo hRm [.int (μ10.1 1001 v1.toNatClampNeg), .int v5, .int v2] [.int v4] (met_X0_castOf (vL C) D ac ad S hLay (μ10.1 1001 v1.toNatClampNeg) v5 v2 μ10 _ h) gxX0_236 mf_X0_castOf rfl (lx_0 S) rfl rfl rfl rfl dX0_whose_55 (fun r14 μ13 h => ?_)
      refine vv_iload_n hC dX0_whose_58 rfl 3 rfl ?_
      refine vv_icmp_ne (tgt := 69) hC dX0_whose_59 rfl (fun c15 => ?_) (fun c15 => ?_)
      · replace h := h.1 c15
        refine vv_iconst hC dX0_whose_69 xic_0 ?_
        refine vv_lv [0, 1, 2, 3, 5] rfl ?_
        exact L70 _ h31 _ _ _ _ _ _ _ h
      · replace h := h.2 c15
        refine vv_iconst hC dX0_whose_62 xic_1 ?_
        refine vv_iload hC dX0_whose_63 5 rfl ?_
        refine vv_ishl hC dX0_whose_65 ?_
        refine vv_goto (tgt := 70) hC dX0_whose_66 rfl ?_
        refine vv_lv [0, 1, 2, 3, 5] rfl ?_
        exact L70 _ h31 _ _ _ _ _ _ _ h
  unfold w_X0_whose at h
  refine vv_aload_n hC dX0_whose_0 rfl 0 rfl ?_
  refine vv_iload_n hC dX0_whose_1 rfl 1 rfl ?_
  refine vv_callVi hC hR hK hRo hRm [.int v1] [] (met_X0_isSeal (vL C) D ac ad S hLay v1 μ _ h) gxX0_160 mf_X0_isSeal rfl (lx_0 S) rfl rfl rfl rfl dX0_whose_2 (fun r2 μ1 h => ?_)
  refine vv_if_eq (tgt := 23) hC dX0_whose_5 rfl (fun c3 => ?_) (fun c3 => ?_)
  · replace h := h.1 c3
    refine vv_iconst hC dX0_whose_23 xic_m1 ?_
    exact vv_iret hC hM dX0_whose_24 h
  · replace h := h.2 c3
    refine vv_iload_n hC dX0_whose_8 rfl 2 rfl ?_
    refine vv_callSi hC hR hK hRo hRm [.int v2] [] (met_X0_isHeat (vL C) D ac ad S hLay v2 μ1 _ h) gxX0_207 mf_X0_isHeat rfl rfl rfl dX0_whose_9 (fun r5 μ4 h => ?_)
    refine vv_if_eq (tgt := 23) hC dX0_whose_12 rfl (fun c6 => ?_) (fun c6 => ?_)
    · replace h := h.1 c6
      refine vv_iconst hC dX0_whose_23 xic_m1 ?_
      exact vv_iret hC hM dX0_whose_24 h
    · replace h := h.2 c6
      refine vv_aload_n hC dX0_whose_15 rfl 0 rfl ?_
      refine vv_iload_n hC dX0_whose_16 rfl 3 rfl ?_
      refine vv_callVi hC hR hK hRo hRm [.int v3] [] (met_X0_isRow (vL C) D ac ad S hLay v3 μ4 _ h) gxX0_192 mf_X0_isRow rfl (lx_0 S) rfl rfl rfl rfl dX0_whose_17 (fun r8 μ7 h => ?_)
      refine vv_if_ne (tgt := 25) hC dX0_whose_20 rfl (fun c9 => ?_) (fun c9 => ?_)
      · replace h := h.1 c9
        refine vv_iconst hC dX0_whose_25 xic_0 ?_
        refine vv_istore (lv' := [(4, .int 0), (0, .ref (ad 0)), (1, .int v1), (2, .int v2), (3, .int v3)]) hC dX0_whose_26 (by decide) rfl ?_
        refine vv_iconst hC dX0_whose_28 xic_0 ?_
        refine vv_istore (lv' := [(5, .int 0), (4, .int 0), (0, .ref (ad 0)), (1, .int v1), (2, .int v2), (3, .int v3)]) hC dX0_whose_29 (by decide) rfl ?_
        refine vv_lv [2, 3, 4, 5, 1, 0] rfl ?_
        exact L31  _ _ _ _ _ _ h
      · replace h := h.2 c9
        refine vv_iconst hC dX0_whose_23 xic_m1 ?_
        exact vv_iret hC hM dX0_whose_24 h
def w_X0_made_87 (S : XS) (P25 : Int32 → Int32 → Int32 → Int32 → WS → Prop) (s0 : Int32) (s1 : Int32) (v1 : Int32) (v2 : Int32) (v4 : Int32) (μ : WS) (Q : Int32 → WS → Prop) : Prop := (∀ x14 : Int32, x14 = s1 ||| s0 → P25 v1 v2 x14 (v4 + 1) μ)
def w_X0_made_86 (S : XS) (P25 : Int32 → Int32 → Int32 → Int32 → WS → Prop) (s0 : Int32) (v1 : Int32) (v2 : Int32) (v4 : Int32) (μ : WS) (Q : Int32 → WS → Prop) : Prop := w_X0_made_87 S P25 0 s0 v1 v2 v4 μ Q
def w_X0_made_25b (S : XS) (P25 : Int32 → Int32 → Int32 → Int32 → WS → Prop) (v1 : Int32) (v2 : Int32) (v3 : Int32) (v4 : Int32) (μ : WS) (Q : Int32 → WS → Prop) : Prop := ((μ.1 1000 7 ≤ v4) → Q v3 μ) ∧ ((¬ μ.1 1000 7 ≤ v4) → (vp_in v4 24 ∧ (w_X1_turn S (μ.1 1001 v4.toNatClampNeg) μ (fun r9 μ8 => ((¬ v1 &&& (r9 ^^^ (-1)) = 0) → w_X0_made_86 S P25 v3 v1 v2 v4 μ8 Q) ∧ ((v1 &&& (r9 ^^^ (-1)) = 0) → (w_J15_bitCount S (r9 &&& (v1 ^^^ (-1))) μ8 (fun r12 μ11 => ((v2 < r12) → w_X0_made_86 S P25 v3 v1 v2 v4 μ11 Q) ∧ ((¬ v2 < r12) → w_X0_made_87 S P25 (1 <<< (v4 &&& 31)) v3 v1 v2 v4 μ11 Q))))))))
def w_X0_made_25 (S : XS) (v1 : Int32) (v2 : Int32) (v3 : Int32) (v4 : Int32) (μ : WS) (Q : Int32 → WS → Prop) : Prop := ∀ P25 : Int32 → Int32 → Int32 → Int32 → WS → Prop, (∀ (v1 : Int32) (v2 : Int32) (v3 : Int32) (v4 : Int32) (μ : WS), w_X0_made_25b S  P25 v1 v2 v3 v4 μ Q → P25 v1 v2 v3 v4 μ) → P25 v1 v2 v3 v4 μ
def w_X0_made (S : XS) (v1 : Int32) (v2 : Int32) (μ : WS) (Q : Int32 → WS → Prop) : Prop := (w_X0_isRow S v1 μ (fun r2 μ1 => ((r2 = 0) → Q (-1) μ1) ∧ ((¬ r2 = 0) → (w_X0_isIn S v2 0 12 μ1 (fun r5 μ4 => ((¬ r5 = 0) → w_X0_made_25 S v1 v2 0 0 μ4 Q) ∧ ((r5 = 0) → Q (-1) μ4))))))
abbrev rm_X0_made : Room := { frames := 2, cells := 0, slots := 0, locals := 43 }
theorem mf_X0_made : MFact yX0_made 2 rm_X0_made := ⟨by decide +kernel, rfl, rfl⟩
set_option maxHeartbeats 4000000 in
theorem met_X0_made (l : Launch) (D : va_G) (ac : Nat → ClassId) (ad : Nat → Nat) (S : XS) (hLay : LayOk ad (knX S)) (v1 : Int32) (v2 : Int32) (μ : WS) (Q : Int32 → WS → Prop) (h : w_X0_made S v1 v2 μ Q) : CMet l yX0_made cX0_made 6 (some .int) rm_X0_made D ac ad (knX S) (ExX D ac ad S) [.ref (ad 0), .int v1, .int v2] μ (qI Q) := by
  refine vv_met (lv := [(0, .ref (ad 0)), (1, .int v1), (2, .int v2)]) (by decide) hLay exX_ok (Nat.le_of_ble_eq_true rfl) rfl ⟨rfl, rfl⟩ (fun C hC hK hRm hLl hR hM => ?_)
  subst hLl
  have hRo : RoomOk (HPW D ac ad (knX S) (ExX D ac ad S) (vS C)) (vR C) := HPW.room
  have L87 : ∀ (P25 : Int32 → Int32 → Int32 → Int32 → WS → Prop) (h25 : ∀ (v1 : Int32) (v2 : Int32) (v3 : Int32) (v4 : Int32) (μ : WS), P25 v1 v2 v3 v4 μ → VV C 6 (HPW D ac ad (knX S) (ExX D ac ad S) (vS C)) (vQ C (QcW D ac ad (knX S) (qI Q)) 0 0 (inLay ad (knX S))) (μ, ()) 25 [(0, .ref (ad 0)), (1, .int v1), (2, .int v2), (3, .int v3), (4, .int v4)] []) (s0 : Int32) (s1 : Int32) (v1 : Int32) (v2 : Int32) (v4 : Int32) (μ : WS), w_X0_made_87 S P25 s0 s1 v1 v2 v4 μ Q → VV C 6 (HPW D ac ad (knX S) (ExX D ac ad S) (vS C)) (vQ C (QcW D ac ad (knX S) (qI Q)) 0 0 (inLay ad (knX S))) (μ, ()) 87 [(0, .ref (ad 0)), (1, .int v1), (2, .int v2), (4, .int v4)] [.int s0, .int s1] := by
    intro P25 h25 s0 s1 v1 v2 v4 μ h
    unfold w_X0_made_87 at h
    refine vv_ior hC dX0_made_87 ?_
    refine vv_topi (fun x14 ex14 => ?_)
    replace h := h x14 ex14
    refine vv_istore_n (lv' := [(3, .int x14), (0, .ref (ad 0)), (1, .int v1), (2, .int v2), (4, .int v4)]) hC dX0_made_88 rfl (by decide) rfl ?_
    refine vv_iinc (pl := 4) (v := v4 + 1) (lv' := [(4, .int (v4 + 1)), (3, .int x14), (0, .ref (ad 0)), (1, .int v1), (2, .int v2)]) hC dX0_made_89 rfl rfl (by decide) rfl ?_
    refine vv_goto (tgt := 25) hC dX0_made_92 rfl ?_
    refine vv_lv [2, 3, 4, 1, 0] rfl ?_
    exact h25 _ _ _ _ _ h
  have L86 : ∀ (P25 : Int32 → Int32 → Int32 → Int32 → WS → Prop) (h25 : ∀ (v1 : Int32) (v2 : Int32) (v3 : Int32) (v4 : Int32) (μ : WS), P25 v1 v2 v3 v4 μ → VV C 6 (HPW D ac ad (knX S) (ExX D ac ad S) (vS C)) (vQ C (QcW D ac ad (knX S) (qI Q)) 0 0 (inLay ad (knX S))) (μ, ()) 25 [(0, .ref (ad 0)), (1, .int v1), (2, .int v2), (3, .int v3), (4, .int v4)] []) (s0 : Int32) (v1 : Int32) (v2 : Int32) (v4 : Int32) (μ : WS), w_X0_made_86 S P25 s0 v1 v2 v4 μ Q → VV C 6 (HPW D ac ad (knX S) (ExX D ac ad S) (vS C)) (vQ C (QcW D ac ad (knX S) (qI Q)) 0 0 (inLay ad (knX S))) (μ, ()) 86 [(0, .ref (ad 0)), (1, .int v1), (2, .int v2), (4, .int v4)] [.int s0] := by
    intro P25 h25 s0 v1 v2 v4 μ h
    unfold w_X0_made_86 at h
    refine vv_iconst hC dX0_made_86 xic_0 ?_
    exact L87 _ h25 _ _ _ _ _ _ h
  have L25 : ∀ (v1 : Int32) (v2 : Int32) (v3 : Int32) (v4 : Int32) (μ : WS), w_X0_made_25 S  v1 v2 v3 v4 μ Q → VV C 6 (HPW D ac ad (knX S) (ExX D ac ad S) (vS C)) (vQ C (QcW D ac ad (knX S) (qI Q)) 0 0 (inLay ad (knX S))) (μ, ()) 25 [(0, .ref (ad 0)), (1, .int v1), (2, .int v2), (3, .int v3), (4, .int v4)] [] := by
    intro  v1 v2 v3 v4 μ h
    refine h (fun v1 v2 v3 v4 μ => VV C 6 (HPW D ac ad (knX S) (ExX D ac ad S) (vS C)) (vQ C (QcW D ac ad (knX S) (qI Q)) 0 0 (inLay ad (knX S))) (μ, ()) 25 [(0, .ref (ad 0)), (1, .int v1), (2, .int v2), (3, .int v3), (4, .int v4)] []) ?_
    clear h; intro v1 v2 v3 v4 μ h
    have h25 : ∀ (v1 : Int32) (v2 : Int32) (v3 : Int32) (v4 : Int32) (μ : WS), (fun v1 v2 v3 v4 (μ : WS) => VV C 6 (HPW D ac ad (knX S) (ExX D ac ad S) (vS C)) (vQ C (QcW D ac ad (knX S) (qI Q)) 0 0 (inLay ad (knX S))) (μ, ()) 25 [(0, .ref (ad 0)), (1, .int v1), (2, .int v2), (3, .int v3), (4, .int v4)] []) v1 v2 v3 v4 μ → VV C 6 (HPW D ac ad (knX S) (ExX D ac ad S) (vS C)) (vQ C (QcW D ac ad (knX S) (qI Q)) 0 0 (inLay ad (knX S))) (μ, ()) 25 [(0, .ref (ad 0)), (1, .int v1), (2, .int v2), (3, .int v3), (4, .int v4)] [] := fun _ _ _ _ _ h => h
    unfold w_X0_made_25b at h
    refine vv_iload hC dX0_made_25 4 rfl ?_
    refine vv_aload_n hC dX0_made_27 rfl 0 rfl ?_
    refine vv_getf hC hR hK fxX0_31_X0 0 (lx_0 S) rfl dX0_made_28 ?_
    refine vv_getf hC hR hK fxX0_154_X3 1000 (lx_1000 S) rfl dX0_made_31 ?_
    refine vv_icmp_ge (tgt := 95) hC dX0_made_34 rfl (fun c7 => ?_) (fun c7 => ?_)
    · replace h := h.1 c7
      refine vv_iload_n hC dX0_made_95 rfl 3 rfl ?_
      exact vv_iret hC hM dX0_made_96 h
    · replace h := h.2 c7
      refine vv_aload_n hC dX0_made_37 rfl 0 rfl ?_
      refine vv_getf hC hR hK fxX0_20_X0 0 (lx_0 S) rfl dX0_made_38 ?_
      refine vv_aload_n hC dX0_made_41 rfl 0 rfl ?_
      refine vv_getf hC hR hK fxX0_31_X0 0 (lx_0 S) rfl dX0_made_42 ?_
      refine vv_getf hC hR hK fxX0_164_X3 1000 (lx_1000 S) rfl dX0_made_45 ?_
      refine vv_iload hC dX0_made_48 4 rfl ?_
      obtain ⟨hin125, h⟩ := h
      refine vv_iald hC hR hK 1001 (lx_1001 S) hin125 dX0_made_50 ?_
      refine vv_callVi hC hR hK hRo hRm [.int (μ.1 1001 v4.toNatClampNeg)] [] (met_X1_turn (vL C) D ac ad S hLay (μ.1 1001 v4.toNatClampNeg) μ _ h) gxX0_195 mf_X1_turn rfl (lx_104 S) rfl rfl rfl rfl dX0_made_51 (fun r9 μ8 h => ?_)
      refine vv_istore (lv' := [(5, .int r9), (0, .ref (ad 0)), (1, .int v1), (2, .int v2), (3, .int v3), (4, .int v4)]) hC dX0_made_54 (by decide) rfl ?_
      refine vv_iload_n hC dX0_made_56 rfl 4 rfl ?_
      refine vv_iload_n hC dX0_made_57 rfl 2 rfl ?_
      refine vv_iload hC dX0_made_58 0 rfl ?_
      refine vv_iconst hC dX0_made_60 xic_m1 ?_
      refine vv_ixor hC dX0_made_61 ?_
      refine vv_iand hC dX0_made_62 ?_
      refine vv_if_ne (tgt := 86) hC dX0_made_63 rfl (fun c10 => ?_) (fun c10 => ?_)
      · replace h := h.1 c10
        refine vv_lv [1, 2, 3, 5] rfl ?_
        exact L86 _ h25 _ _ _ _ _ h
      · replace h := h.2 c10
        refine vv_iload hC dX0_made_66 0 rfl ?_
        refine vv_iload_n hC dX0_made_68 rfl 2 rfl ?_
        refine vv_iconst hC dX0_made_69 xic_m1 ?_
        refine vv_ixor hC dX0_made_70 ?_
        refine vv_iand hC dX0_made_71 ?_
        refine vv_callSi hC hR hK hRo hRm [.int (r9 &&& (v1 ^^^ (-1)))] [.int v3] (met_J15_bitCount (vL C) D ac ad S hLay (r9 &&& (v1 ^^^ (-1))) μ8 _ h) gxX0_240 mf_J15_bitCount rfl rfl rfl dX0_made_72 (fun r12 μ11 h => ?_)
        refine vv_iload_n hC dX0_made_75 rfl 3 rfl ?_
        refine vv_icmp_gt (tgt := 86) hC dX0_made_76 rfl (fun c13 => ?_) (fun c13 => ?_)
        · replace h := h.1 c13
          refine vv_lv [1, 2, 3, 5] rfl ?_
          exact L86 _ h25 _ _ _ _ _ h
        · replace h := h.2 c13
          refine vv_iconst hC dX0_made_79 xic_1 ?_
          refine vv_iload hC dX0_made_80 5 rfl ?_
          refine vv_ishl hC dX0_made_82 ?_
          refine vv_goto (tgt := 87) hC dX0_made_83 rfl ?_
          refine vv_lv [1, 2, 3, 5] rfl ?_
          exact L87 _ h25 _ _ _ _ _ _ h
  unfold w_X0_made at h
  refine vv_aload_n hC dX0_made_0 rfl 0 rfl ?_
  refine vv_iload_n hC dX0_made_1 rfl 1 rfl ?_
  refine vv_callVi hC hR hK hRo hRm [.int v1] [] (met_X0_isRow (vL C) D ac ad S hLay v1 μ _ h) gxX0_192 mf_X0_isRow rfl (lx_0 S) rfl rfl rfl rfl dX0_made_2 (fun r2 μ1 h => ?_)
  refine vv_if_eq (tgt := 18) hC dX0_made_5 rfl (fun c3 => ?_) (fun c3 => ?_)
  · replace h := h.1 c3
    refine vv_iconst hC dX0_made_18 xic_m1 ?_
    exact vv_iret hC hM dX0_made_19 h
  · replace h := h.2 c3
    refine vv_iload_n hC dX0_made_8 rfl 2 rfl ?_
    refine vv_iconst hC dX0_made_9 xic_0 ?_
    refine vv_bipush hC dX0_made_10 xbp_12 ?_
    refine vv_callSi hC hR hK hRo hRm [.int v2, .int 0, .int 12] [] (met_X0_isIn (vL C) D ac ad S hLay v2 0 12 μ1 _ h) gxX0_150 mf_X0_isIn rfl rfl rfl dX0_made_12 (fun r5 μ4 h => ?_)
    refine vv_if_ne (tgt := 20) hC dX0_made_15 rfl (fun c6 => ?_) (fun c6 => ?_)
    · replace h := h.1 c6
      refine vv_iconst hC dX0_made_20 xic_0 ?_
      refine vv_istore_n (lv' := [(3, .int 0), (0, .ref (ad 0)), (1, .int v1), (2, .int v2)]) hC dX0_made_21 rfl (by decide) rfl ?_
      refine vv_iconst hC dX0_made_22 xic_0 ?_
      refine vv_istore (lv' := [(4, .int 0), (3, .int 0), (0, .ref (ad 0)), (1, .int v1), (2, .int v2)]) hC dX0_made_23 (by decide) rfl ?_
      refine vv_lv [2, 3, 4, 1, 0] rfl ?_
      exact L25  _ _ _ _ _ h
    · replace h := h.2 c6
      refine vv_iconst hC dX0_made_18 xic_m1 ?_
      exact vv_iret hC hM dX0_made_19 h
def w_X0_apart_57 (S : XS) (s0 : Int32) (s1 : Int32) (μ : WS) (Q : Int32 → WS → Prop) : Prop := (w_J15_bitCount S (s1 ^^^ s0) μ (fun r11 μ10 => Q r11 μ10))
def w_X0_apart (S : XS) (v1 : Int32) (v2 : Int32) (v3 : Int32) (μ : WS) (Q : Int32 → WS → Prop) : Prop := (w_X0_isSeal S v1 μ (fun r2 μ1 => ((r2 = 0) → Q (-1) μ1) ∧ ((¬ r2 = 0) → (w_X0_isSeal S v2 μ1 (fun r5 μ4 => ((r5 = 0) → Q (-1) μ4) ∧ ((¬ r5 = 0) → (vp_in v1 24 ∧ ((v3 = 0) → (vp_in v2 24 ∧ w_X0_apart_57 S (μ4.1 1001 v2.toNatClampNeg) (μ4.1 1001 v1.toNatClampNeg) μ4 Q)) ∧ ((¬ v3 = 0) → (vp_in v2 24 ∧ (w_X1_turn S (μ4.1 1001 v2.toNatClampNeg) μ4 (fun r9 μ8 => w_X0_apart_57 S r9 (μ4.1 1001 v1.toNatClampNeg) μ8 Q)))))))))))
abbrev rm_X0_apart : Room := { frames := 2, cells := 0, slots := 0, locals := 43 }
theorem mf_X0_apart : MFact yX0_apart 3 rm_X0_apart := ⟨by decide +kernel, rfl, rfl⟩
set_option maxHeartbeats 4000000 in
theorem met_X0_apart (l : Launch) (D : va_G) (ac : Nat → ClassId) (ad : Nat → Nat) (S : XS) (hLay : LayOk ad (knX S)) (v1 : Int32) (v2 : Int32) (v3 : Int32) (μ : WS) (Q : Int32 → WS → Prop) (h : w_X0_apart S v1 v2 v3 μ Q) : CMet l yX0_apart cX0_apart 4 (some .int) rm_X0_apart D ac ad (knX S) (ExX D ac ad S) [.ref (ad 0), .int v1, .int v2, .int v3] μ (qI Q) := by
  refine vv_met (lv := [(0, .ref (ad 0)), (1, .int v1), (2, .int v2), (3, .int v3)]) (by decide) hLay exX_ok (Nat.le_of_ble_eq_true rfl) rfl ⟨rfl, rfl⟩ (fun C hC hK hRm hLl hR hM => ?_)
  subst hLl
  have hRo : RoomOk (HPW D ac ad (knX S) (ExX D ac ad S) (vS C)) (vR C) := HPW.room
  have L57 : ∀ (s0 : Int32) (s1 : Int32) (μ : WS), w_X0_apart_57 S  s0 s1 μ Q → VV C 4 (HPW D ac ad (knX S) (ExX D ac ad S) (vS C)) (vQ C (QcW D ac ad (knX S) (qI Q)) 0 0 (inLay ad (knX S))) (μ, ()) 57 [] [.int s0, .int s1] := by
    intro  s0 s1 μ h
    unfold w_X0_apart_57 at h
    refine vv_ixor hC dX0_apart_57 ?_
    refine vv_callSi hC hR hK hRo hRm [.int (s1 ^^^ s0)] [] (met_J15_bitCount (vL C) D ac ad S hLay (s1 ^^^ s0) μ _ h) gxX0_240 mf_J15_bitCount rfl rfl rfl dX0_apart_58 (fun r11 μ10 h => ?_)
    refine vv_goto (tgt := 65) hC dX0_apart_61 rfl ?_
    exact vv_iret hC hM dX0_apart_65 h
  unfold w_X0_apart at h
  refine vv_aload_n hC dX0_apart_0 rfl 0 rfl ?_
  refine vv_iload_n hC dX0_apart_1 rfl 1 rfl ?_
  refine vv_callVi hC hR hK hRo hRm [.int v1] [] (met_X0_isSeal (vL C) D ac ad S hLay v1 μ _ h) gxX0_160 mf_X0_isSeal rfl (lx_0 S) rfl rfl rfl rfl dX0_apart_2 (fun r2 μ1 h => ?_)
  refine vv_if_eq (tgt := 64) hC dX0_apart_5 rfl (fun c3 => ?_) (fun c3 => ?_)
  · replace h := h.1 c3
    refine vv_iconst hC dX0_apart_64 xic_m1 ?_
    exact vv_iret hC hM dX0_apart_65 h
  · replace h := h.2 c3
    refine vv_aload_n hC dX0_apart_8 rfl 0 rfl ?_
    refine vv_iload_n hC dX0_apart_9 rfl 2 rfl ?_
    refine vv_callVi hC hR hK hRo hRm [.int v2] [] (met_X0_isSeal (vL C) D ac ad S hLay v2 μ1 _ h) gxX0_160 mf_X0_isSeal rfl (lx_0 S) rfl rfl rfl rfl dX0_apart_10 (fun r5 μ4 h => ?_)
    refine vv_if_eq (tgt := 64) hC dX0_apart_13 rfl (fun c6 => ?_) (fun c6 => ?_)
    · replace h := h.1 c6
      refine vv_iconst hC dX0_apart_64 xic_m1 ?_
      exact vv_iret hC hM dX0_apart_65 h
    · replace h := h.2 c6
      refine vv_aload_n hC dX0_apart_16 rfl 0 rfl ?_
      refine vv_getf hC hR hK fxX0_31_X0 0 (lx_0 S) rfl dX0_apart_17 ?_
      refine vv_getf hC hR hK fxX0_164_X3 1000 (lx_1000 S) rfl dX0_apart_20 ?_
      refine vv_iload_n hC dX0_apart_23 rfl 1 rfl ?_
      obtain ⟨hin126, h⟩ := h
      refine vv_iald hC hR hK 1001 (lx_1001 S) hin126 dX0_apart_24 ?_
      refine vv_iload_n hC dX0_apart_25 rfl 3 rfl ?_
      refine vv_if_eq (tgt := 48) hC dX0_apart_26 rfl (fun c7 => ?_) (fun c7 => ?_)
      · replace h := h.1 c7
        refine vv_aload_n hC dX0_apart_48 rfl 0 rfl ?_
        refine vv_getf hC hR hK fxX0_31_X0 0 (lx_0 S) rfl dX0_apart_49 ?_
        refine vv_getf hC hR hK fxX0_164_X3 1000 (lx_1000 S) rfl dX0_apart_52 ?_
        refine vv_iload_n hC dX0_apart_55 rfl 2 rfl ?_
        obtain ⟨hin127, h⟩ := h
        refine vv_iald hC hR hK 1001 (lx_1001 S) hin127 dX0_apart_56 ?_
        refine vv_lv [] rfl ?_
        exact L57  _ _ _ h
      · replace h := h.2 c7
        refine vv_aload_n hC dX0_apart_29 rfl 0 rfl ?_
        refine vv_getf hC hR hK fxX0_20_X0 0 (lx_0 S) rfl dX0_apart_30 ?_
        refine vv_aload_n hC dX0_apart_33 rfl 0 rfl ?_
        refine vv_getf hC hR hK fxX0_31_X0 0 (lx_0 S) rfl dX0_apart_34 ?_
        refine vv_getf hC hR hK fxX0_164_X3 1000 (lx_1000 S) rfl dX0_apart_37 ?_
        refine vv_iload_n hC dX0_apart_40 rfl 2 rfl ?_
        obtain ⟨hin128, h⟩ := h
        refine vv_iald hC hR hK 1001 (lx_1001 S) hin128 dX0_apart_41 ?_
        refine vv_callVi hC hR hK hRo hRm [.int (μ4.1 1001 v2.toNatClampNeg)] [.int (μ4.1 1001 v1.toNatClampNeg)] (met_X1_turn (vL C) D ac ad S hLay (μ4.1 1001 v2.toNatClampNeg) μ4 _ h) gxX0_195 mf_X1_turn rfl (lx_104 S) rfl rfl rfl rfl dX0_apart_42 (fun r9 μ8 h => ?_)
        refine vv_goto (tgt := 57) hC dX0_apart_45 rfl ?_
        refine vv_lv [] rfl ?_
        exact L57  _ _ _ h
def w_X0_heats_69 (S : XS) (P32 : Int32 → Int32 → Int32 → Int32 → Int32 → WS → Prop) (s0 : Int32) (s1 : Int32) (v1 : Int32) (v2 : Int32) (v3 : Int32) (v5 : Int32) (μ : WS) (Q : Int32 → WS → Prop) : Prop := (∀ x14 : Int32, x14 = s1 ||| s0 → P32 v1 v2 v3 x14 (v5 + 1) μ)
def w_X0_heats_32b (S : XS) (P32 : Int32 → Int32 → Int32 → Int32 → Int32 → WS → Prop) (v1 : Int32) (v2 : Int32) (v3 : Int32) (v4 : Int32) (v5 : Int32) (μ : WS) (Q : Int32 → WS → Prop) : Prop := ((9 < v5) → Q v4 μ) ∧ ((¬ 9 < v5) → (vp_in v1 24 ∧ (w_X0_castOf S (μ.1 1001 v1.toNatClampNeg) v2 v5 μ (fun r12 μ11 => ((¬ r12 = v3) → w_X0_heats_69 S P32 0 v4 v1 v2 v3 v5 μ11 Q) ∧ ((r12 = v3) → w_X0_heats_69 S P32 (1 <<< (v5 &&& 31)) v4 v1 v2 v3 v5 μ11 Q)))))
def w_X0_heats_32 (S : XS) (v1 : Int32) (v2 : Int32) (v3 : Int32) (v4 : Int32) (v5 : Int32) (μ : WS) (Q : Int32 → WS → Prop) : Prop := ∀ P32 : Int32 → Int32 → Int32 → Int32 → Int32 → WS → Prop, (∀ (v1 : Int32) (v2 : Int32) (v3 : Int32) (v4 : Int32) (v5 : Int32) (μ : WS), w_X0_heats_32b S  P32 v1 v2 v3 v4 v5 μ Q → P32 v1 v2 v3 v4 v5 μ) → P32 v1 v2 v3 v4 v5 μ
def w_X0_heats (S : XS) (v1 : Int32) (v2 : Int32) (v3 : Int32) (μ : WS) (Q : Int32 → WS → Prop) : Prop := (w_X0_isSeal S v1 μ (fun r2 μ1 => ((r2 = 0) → Q (-1) μ1) ∧ ((¬ r2 = 0) → (w_X0_isHand S v2 μ1 (fun r5 μ4 => ((r5 = 0) → Q (-1) μ4) ∧ ((¬ r5 = 0) → (w_X0_isRow S v3 μ4 (fun r8 μ7 => ((¬ r8 = 0) → w_X0_heats_32 S v1 v2 v3 0 0 μ7 Q) ∧ ((r8 = 0) → Q (-1) μ7)))))))))
abbrev rm_X0_heats : Room := { frames := 1703, cells := 0, slots := 0, locals := 51083 }
theorem mf_X0_heats : MFact yX0_heats 3 rm_X0_heats := ⟨by decide +kernel, rfl, rfl⟩
set_option maxHeartbeats 4000000 in
theorem met_X0_heats (l : Launch) (D : va_G) (ac : Nat → ClassId) (ad : Nat → Nat) (S : XS) (hLay : LayOk ad (knX S)) (v1 : Int32) (v2 : Int32) (v3 : Int32) (μ : WS) (Q : Int32 → WS → Prop) (h : w_X0_heats S v1 v2 v3 μ Q) : CMet l yX0_heats cX0_heats 6 (some .int) rm_X0_heats D ac ad (knX S) (ExX D ac ad S) [.ref (ad 0), .int v1, .int v2, .int v3] μ (qI Q) := by
  refine vv_met (lv := [(0, .ref (ad 0)), (1, .int v1), (2, .int v2), (3, .int v3)]) (by decide) hLay exX_ok (Nat.le_of_ble_eq_true rfl) rfl ⟨rfl, rfl⟩ (fun C hC hK hRm hLl hR hM => ?_)
  subst hLl
  have hRo : RoomOk (HPW D ac ad (knX S) (ExX D ac ad S) (vS C)) (vR C) := HPW.room
  have L69 : ∀ (P32 : Int32 → Int32 → Int32 → Int32 → Int32 → WS → Prop) (h32 : ∀ (v1 : Int32) (v2 : Int32) (v3 : Int32) (v4 : Int32) (v5 : Int32) (μ : WS), P32 v1 v2 v3 v4 v5 μ → VV C 6 (HPW D ac ad (knX S) (ExX D ac ad S) (vS C)) (vQ C (QcW D ac ad (knX S) (qI Q)) 0 0 (inLay ad (knX S))) (μ, ()) 32 [(0, .ref (ad 0)), (1, .int v1), (2, .int v2), (3, .int v3), (4, .int v4), (5, .int v5)] []) (s0 : Int32) (s1 : Int32) (v1 : Int32) (v2 : Int32) (v3 : Int32) (v5 : Int32) (μ : WS), w_X0_heats_69 S P32 s0 s1 v1 v2 v3 v5 μ Q → VV C 6 (HPW D ac ad (knX S) (ExX D ac ad S) (vS C)) (vQ C (QcW D ac ad (knX S) (qI Q)) 0 0 (inLay ad (knX S))) (μ, ()) 69 [(0, .ref (ad 0)), (1, .int v1), (2, .int v2), (3, .int v3), (5, .int v5)] [.int s0, .int s1] := by
    intro P32 h32 s0 s1 v1 v2 v3 v5 μ h
    unfold w_X0_heats_69 at h
    refine vv_ior hC dX0_heats_69 ?_
    refine vv_topi (fun x14 ex14 => ?_)
    replace h := h x14 ex14
    refine vv_istore (lv' := [(4, .int x14), (0, .ref (ad 0)), (1, .int v1), (2, .int v2), (3, .int v3), (5, .int v5)]) hC dX0_heats_70 (by decide) rfl ?_
    refine vv_iinc (pl := 5) (v := v5 + 1) (lv' := [(5, .int (v5 + 1)), (4, .int x14), (0, .ref (ad 0)), (1, .int v1), (2, .int v2), (3, .int v3)]) hC dX0_heats_72 rfl rfl (by decide) rfl ?_
    refine vv_goto (tgt := 32) hC dX0_heats_75 rfl ?_
    refine vv_lv [2, 3, 4, 5, 1, 0] rfl ?_
    exact h32 _ _ _ _ _ _ h
  have L32 : ∀ (v1 : Int32) (v2 : Int32) (v3 : Int32) (v4 : Int32) (v5 : Int32) (μ : WS), w_X0_heats_32 S  v1 v2 v3 v4 v5 μ Q → VV C 6 (HPW D ac ad (knX S) (ExX D ac ad S) (vS C)) (vQ C (QcW D ac ad (knX S) (qI Q)) 0 0 (inLay ad (knX S))) (μ, ()) 32 [(0, .ref (ad 0)), (1, .int v1), (2, .int v2), (3, .int v3), (4, .int v4), (5, .int v5)] [] := by
    intro  v1 v2 v3 v4 v5 μ h
    refine h (fun v1 v2 v3 v4 v5 μ => VV C 6 (HPW D ac ad (knX S) (ExX D ac ad S) (vS C)) (vQ C (QcW D ac ad (knX S) (qI Q)) 0 0 (inLay ad (knX S))) (μ, ()) 32 [(0, .ref (ad 0)), (1, .int v1), (2, .int v2), (3, .int v3), (4, .int v4), (5, .int v5)] []) ?_
    clear h; intro v1 v2 v3 v4 v5 μ h
    have h32 : ∀ (v1 : Int32) (v2 : Int32) (v3 : Int32) (v4 : Int32) (v5 : Int32) (μ : WS), (fun v1 v2 v3 v4 v5 (μ : WS) => VV C 6 (HPW D ac ad (knX S) (ExX D ac ad S) (vS C)) (vQ C (QcW D ac ad (knX S) (qI Q)) 0 0 (inLay ad (knX S))) (μ, ()) 32 [(0, .ref (ad 0)), (1, .int v1), (2, .int v2), (3, .int v3), (4, .int v4), (5, .int v5)] []) v1 v2 v3 v4 v5 μ → VV C 6 (HPW D ac ad (knX S) (ExX D ac ad S) (vS C)) (vQ C (QcW D ac ad (knX S) (qI Q)) 0 0 (inLay ad (knX S))) (μ, ()) 32 [(0, .ref (ad 0)), (1, .int v1), (2, .int v2), (3, .int v3), (4, .int v4), (5, .int v5)] [] := fun _ _ _ _ _ _ h => h
    unfold w_X0_heats_32b at h
    refine vv_iload hC dX0_heats_32 5 rfl ?_
    refine vv_bipush hC dX0_heats_34 xbp_9 ?_
    refine vv_icmp_gt (tgt := 78) hC dX0_heats_36 rfl (fun c10 => ?_) (fun c10 => ?_)
    · replace h := h.1 c10
      refine vv_iload hC dX0_heats_78 4 rfl ?_
      exact vv_iret hC hM dX0_heats_80 h
    · replace h := h.2 c10
      refine vv_iload hC dX0_heats_39 4 rfl ?_
      refine vv_aload_n hC dX0_heats_41 rfl 0 rfl ?_
      refine vv_aload_n hC dX0_heats_42 rfl 0 rfl ?_
      refine vv_getf hC hR hK fxX0_31_X0 0 (lx_0 S) rfl dX0_heats_43 ?_
      refine vv_getf hC hR hK fxX0_164_X3 1000 (lx_1000 S) rfl dX0_heats_46 ?_
      refine vv_iload_n hC dX0_heats_49 rfl 1 rfl ?_
      obtain ⟨hin129, h⟩ := h
      refine vv_iald hC hR hK 1001 (lx_1001 S) hin129 dX0_heats_50 ?_
      refine vv_iload_n hC dX0_heats_51 rfl 2 rfl ?_
      refine vv_iload hC dX0_heats_52 5 rfl ?_
      refine vv_callVi hC hR hK hRo hRm [.int (μ.1 1001 v1.toNatClampNeg), .int v2, .int v5] [.int v4] (met_X0_castOf (vL C) D ac ad S hLay (μ.1 1001 v1.toNatClampNeg) v2 v5 μ _ h) gxX0_236 mf_X0_castOf rfl (lx_0 S) rfl rfl rfl rfl dX0_heats_54 (fun r12 μ11 h => ?_)
      refine vv_iload_n hC dX0_heats_57 rfl 3 rfl ?_
      refine vv_icmp_ne (tgt := 68) hC dX0_heats_58 rfl (fun c13 => ?_) (fun c13 => ?_)
      · replace h := h.1 c13
        refine vv_iconst hC dX0_heats_68 xic_0 ?_
        refine vv_lv [0, 1, 2, 3, 5] rfl ?_
        exact L69 _ h32 _ _ _ _ _ _ _ h
      · replace h := h.2 c13
        refine vv_iconst hC dX0_heats_61 xic_1 ?_
        refine vv_iload hC dX0_heats_62 5 rfl ?_
        refine vv_ishl hC dX0_heats_64 ?_
        refine vv_goto (tgt := 69) hC dX0_heats_65 rfl ?_
        refine vv_lv [0, 1, 2, 3, 5] rfl ?_
        exact L69 _ h32 _ _ _ _ _ _ _ h
  unfold w_X0_heats at h
  refine vv_aload_n hC dX0_heats_0 rfl 0 rfl ?_
  refine vv_iload_n hC dX0_heats_1 rfl 1 rfl ?_
  refine vv_callVi hC hR hK hRo hRm [.int v1] [] (met_X0_isSeal (vL C) D ac ad S hLay v1 μ _ h) gxX0_160 mf_X0_isSeal rfl (lx_0 S) rfl rfl rfl rfl dX0_heats_2 (fun r2 μ1 h => ?_)
  refine vv_if_eq (tgt := 24) hC dX0_heats_5 rfl (fun c3 => ?_) (fun c3 => ?_)
  · replace h := h.1 c3
    refine vv_iconst hC dX0_heats_24 xic_m1 ?_
    exact vv_iret hC hM dX0_heats_25 h
  · replace h := h.2 c3
    refine vv_aload_n hC dX0_heats_8 rfl 0 rfl ?_
    refine vv_iload_n hC dX0_heats_9 rfl 2 rfl ?_
    refine vv_callVi hC hR hK hRo hRm [.int v2] [] (met_X0_isHand (vL C) D ac ad S hLay v2 μ1 _ h) gxX0_204 mf_X0_isHand rfl (lx_0 S) rfl rfl rfl rfl dX0_heats_10 (fun r5 μ4 h => ?_)
    refine vv_if_eq (tgt := 24) hC dX0_heats_13 rfl (fun c6 => ?_) (fun c6 => ?_)
    · replace h := h.1 c6
      refine vv_iconst hC dX0_heats_24 xic_m1 ?_
      exact vv_iret hC hM dX0_heats_25 h
    · replace h := h.2 c6
      refine vv_aload_n hC dX0_heats_16 rfl 0 rfl ?_
      refine vv_iload_n hC dX0_heats_17 rfl 3 rfl ?_
      refine vv_callVi hC hR hK hRo hRm [.int v3] [] (met_X0_isRow (vL C) D ac ad S hLay v3 μ4 _ h) gxX0_192 mf_X0_isRow rfl (lx_0 S) rfl rfl rfl rfl dX0_heats_18 (fun r8 μ7 h => ?_)
      refine vv_if_ne (tgt := 26) hC dX0_heats_21 rfl (fun c9 => ?_) (fun c9 => ?_)
      · replace h := h.1 c9
        refine vv_iconst hC dX0_heats_26 xic_0 ?_
        refine vv_istore (lv' := [(4, .int 0), (0, .ref (ad 0)), (1, .int v1), (2, .int v2), (3, .int v3)]) hC dX0_heats_27 (by decide) rfl ?_
        refine vv_iconst hC dX0_heats_29 xic_0 ?_
        refine vv_istore (lv' := [(5, .int 0), (4, .int 0), (0, .ref (ad 0)), (1, .int v1), (2, .int v2), (3, .int v3)]) hC dX0_heats_30 (by decide) rfl ?_
        refine vv_lv [2, 3, 4, 5, 1, 0] rfl ?_
        exact L32  _ _ _ _ _ _ h
      · replace h := h.2 c9
        refine vv_iconst hC dX0_heats_24 xic_m1 ?_
        exact vv_iret hC hM dX0_heats_25 h
def w_X0_layGiven_28b (S : XS) (P28 : Int32 → Int32 → Int32 → Int32 → WS → Prop) (v1 : Int32) (v2 : Int32) (v3 : Int32) (v4 : Int32) (μ : WS) (Q : Int32 → WS → Prop) : Prop := ((100 ≤ v4) → Q 1 μ) ∧ ((¬ 100 ≤ v4) → (vp_in v1 24 ∧ (w_X1_cast S (μ.1 1001 v1.toNatClampNeg) v2 v3 (μ.1 1000 10) v4 μ (fun r12 μ11 => (vp_in v4 100 ∧ (∀ μ13 : WS, μ13 = wset μ11 111 v4.toNatClampNeg r12 → P28 v1 v2 v3 (v4 + 1) μ13))))))
def w_X0_layGiven_28 (S : XS) (v1 : Int32) (v2 : Int32) (v3 : Int32) (v4 : Int32) (μ : WS) (Q : Int32 → WS → Prop) : Prop := ∀ P28 : Int32 → Int32 → Int32 → Int32 → WS → Prop, (∀ (v1 : Int32) (v2 : Int32) (v3 : Int32) (v4 : Int32) (μ : WS), w_X0_layGiven_28b S  P28 v1 v2 v3 v4 μ Q → P28 v1 v2 v3 v4 μ) → P28 v1 v2 v3 v4 μ
def w_X0_layGiven (S : XS) (v1 : Int32) (v2 : Int32) (v3 : Int32) (μ : WS) (Q : Int32 → WS → Prop) : Prop := (w_X0_isSeal S v1 μ (fun r2 μ1 => ((r2 = 0) → Q 0 μ1) ∧ ((¬ r2 = 0) → (w_X0_isHand S v2 μ1 (fun r5 μ4 => ((r5 = 0) → Q 0 μ4) ∧ ((¬ r5 = 0) → (w_X0_isHeat S v3 μ4 (fun r8 μ7 => ((¬ r8 = 0) → w_X0_layGiven_28 S v1 v2 v3 0 μ7 Q) ∧ ((r8 = 0) → Q 0 μ7)))))))))
abbrev rm_X0_layGiven : Room := { frames := 1702, cells := 0, slots := 0, locals := 51060 }
theorem mf_X0_layGiven : MFact yX0_layGiven 3 rm_X0_layGiven := ⟨by decide +kernel, rfl, rfl⟩
set_option maxHeartbeats 4000000 in
theorem met_X0_layGiven (l : Launch) (D : va_G) (ac : Nat → ClassId) (ad : Nat → Nat) (S : XS) (hLay : LayOk ad (knX S)) (v1 : Int32) (v2 : Int32) (v3 : Int32) (μ : WS) (Q : Int32 → WS → Prop) (h : w_X0_layGiven S v1 v2 v3 μ Q) : CMet l yX0_layGiven cX0_layGiven 5 (some .boolean) rm_X0_layGiven D ac ad (knX S) (ExX D ac ad S) [.ref (ad 0), .int v1, .int v2, .int v3] μ (qI Q) := by
  refine vv_met (lv := [(0, .ref (ad 0)), (1, .int v1), (2, .int v2), (3, .int v3)]) (by decide) hLay exX_ok (Nat.le_of_ble_eq_true rfl) rfl ⟨rfl, rfl⟩ (fun C hC hK hRm hLl hR hM => ?_)
  subst hLl
  have hRo : RoomOk (HPW D ac ad (knX S) (ExX D ac ad S) (vS C)) (vR C) := HPW.room
  have L28 : ∀ (v1 : Int32) (v2 : Int32) (v3 : Int32) (v4 : Int32) (μ : WS), w_X0_layGiven_28 S  v1 v2 v3 v4 μ Q → VV C 5 (HPW D ac ad (knX S) (ExX D ac ad S) (vS C)) (vQ C (QcW D ac ad (knX S) (qI Q)) 0 0 (inLay ad (knX S))) (μ, ()) 28 [(0, .ref (ad 0)), (1, .int v1), (2, .int v2), (3, .int v3), (4, .int v4)] [] := by
    intro  v1 v2 v3 v4 μ h
    refine h (fun v1 v2 v3 v4 μ => VV C 5 (HPW D ac ad (knX S) (ExX D ac ad S) (vS C)) (vQ C (QcW D ac ad (knX S) (qI Q)) 0 0 (inLay ad (knX S))) (μ, ()) 28 [(0, .ref (ad 0)), (1, .int v1), (2, .int v2), (3, .int v3), (4, .int v4)] []) ?_
    clear h; intro v1 v2 v3 v4 μ h
    have h28 : ∀ (v1 : Int32) (v2 : Int32) (v3 : Int32) (v4 : Int32) (μ : WS), (fun v1 v2 v3 v4 (μ : WS) => VV C 5 (HPW D ac ad (knX S) (ExX D ac ad S) (vS C)) (vQ C (QcW D ac ad (knX S) (qI Q)) 0 0 (inLay ad (knX S))) (μ, ()) 28 [(0, .ref (ad 0)), (1, .int v1), (2, .int v2), (3, .int v3), (4, .int v4)] []) v1 v2 v3 v4 μ → VV C 5 (HPW D ac ad (knX S) (ExX D ac ad S) (vS C)) (vQ C (QcW D ac ad (knX S) (qI Q)) 0 0 (inLay ad (knX S))) (μ, ()) 28 [(0, .ref (ad 0)), (1, .int v1), (2, .int v2), (3, .int v3), (4, .int v4)] [] := fun _ _ _ _ _ h => h
    unfold w_X0_layGiven_28b at h
    refine vv_iload hC dX0_layGiven_28 4 rfl ?_
    refine vv_bipush hC dX0_layGiven_30 xbp_100 ?_
    refine vv_icmp_ge (tgt := 75) hC dX0_layGiven_32 rfl (fun c10 => ?_) (fun c10 => ?_)
    · replace h := h.1 c10
      refine vv_iconst hC dX0_layGiven_75 xic_1 ?_
      exact vv_zret hC hM dX0_layGiven_76 isB_1 h
    · replace h := h.2 c10
      refine vv_aload_n hC dX0_layGiven_35 rfl 0 rfl ?_
      refine vv_getf hC hR hK fxX0_42_X0 0 (lx_0 S) rfl dX0_layGiven_36 ?_
      refine vv_iload hC dX0_layGiven_39 4 rfl ?_
      refine vv_aload_n hC dX0_layGiven_41 rfl 0 rfl ?_
      refine vv_getf hC hR hK fxX0_20_X0 0 (lx_0 S) rfl dX0_layGiven_42 ?_
      refine vv_aload_n hC dX0_layGiven_45 rfl 0 rfl ?_
      refine vv_getf hC hR hK fxX0_31_X0 0 (lx_0 S) rfl dX0_layGiven_46 ?_
      refine vv_getf hC hR hK fxX0_164_X3 1000 (lx_1000 S) rfl dX0_layGiven_49 ?_
      refine vv_iload_n hC dX0_layGiven_52 rfl 1 rfl ?_
      obtain ⟨hin130, h⟩ := h
      refine vv_iald hC hR hK 1001 (lx_1001 S) hin130 dX0_layGiven_53 ?_
      refine vv_iload_n hC dX0_layGiven_54 rfl 2 rfl ?_
      refine vv_iload_n hC dX0_layGiven_55 rfl 3 rfl ?_
      refine vv_aload_n hC dX0_layGiven_56 rfl 0 rfl ?_
      refine vv_getf hC hR hK fxX0_31_X0 0 (lx_0 S) rfl dX0_layGiven_57 ?_
      refine vv_getf hC hR hK fxX0_197_X3 1000 (lx_1000 S) rfl dX0_layGiven_60 ?_
      refine vv_iload hC dX0_layGiven_63 4 rfl ?_
      refine vv_callVi hC hR hK hRo hRm [.int (μ.1 1001 v1.toNatClampNeg), .int v2, .int v3, .int (μ.1 1000 10), .int v4] [.int v4, .ref (ad 111)] (met_X1_cast (vL C) D ac ad S hLay (μ.1 1001 v1.toNatClampNeg) v2 v3 (μ.1 1000 10) v4 μ _ h) gxX0_200 mf_X1_cast rfl (lx_104 S) rfl rfl rfl rfl dX0_layGiven_65 (fun r12 μ11 h => ?_)
      obtain ⟨hin131, h⟩ := h
      refine vv_iast hC hR hK 111 (lx_111 S) hin131 dX0_layGiven_68 ?_
      refine vv_st (fun y e => ?_)
      obtain ⟨μ13, _⟩ := y
      have eμ13 := congrArg Prod.fst e
      clear e
      replace h := h μ13 eμ13
      refine vv_iinc (pl := 4) (v := v4 + 1) (lv' := [(4, .int (v4 + 1)), (0, .ref (ad 0)), (1, .int v1), (2, .int v2), (3, .int v3)]) hC dX0_layGiven_69 rfl rfl (by decide) rfl ?_
      refine vv_goto (tgt := 28) hC dX0_layGiven_72 rfl ?_
      refine vv_lv [1, 2, 3, 4, 0] rfl ?_
      exact h28 _ _ _ _ _ h
  unfold w_X0_layGiven at h
  refine vv_aload_n hC dX0_layGiven_0 rfl 0 rfl ?_
  refine vv_iload_n hC dX0_layGiven_1 rfl 1 rfl ?_
  refine vv_callVi hC hR hK hRo hRm [.int v1] [] (met_X0_isSeal (vL C) D ac ad S hLay v1 μ _ h) gxX0_160 mf_X0_isSeal rfl (lx_0 S) rfl rfl rfl rfl dX0_layGiven_2 (fun r2 μ1 h => ?_)
  refine vv_if_eq (tgt := 23) hC dX0_layGiven_5 rfl (fun c3 => ?_) (fun c3 => ?_)
  · replace h := h.1 c3
    refine vv_iconst hC dX0_layGiven_23 xic_0 ?_
    exact vv_zret hC hM dX0_layGiven_24 isB_0 h
  · replace h := h.2 c3
    refine vv_aload_n hC dX0_layGiven_8 rfl 0 rfl ?_
    refine vv_iload_n hC dX0_layGiven_9 rfl 2 rfl ?_
    refine vv_callVi hC hR hK hRo hRm [.int v2] [] (met_X0_isHand (vL C) D ac ad S hLay v2 μ1 _ h) gxX0_204 mf_X0_isHand rfl (lx_0 S) rfl rfl rfl rfl dX0_layGiven_10 (fun r5 μ4 h => ?_)
    refine vv_if_eq (tgt := 23) hC dX0_layGiven_13 rfl (fun c6 => ?_) (fun c6 => ?_)
    · replace h := h.1 c6
      refine vv_iconst hC dX0_layGiven_23 xic_0 ?_
      exact vv_zret hC hM dX0_layGiven_24 isB_0 h
    · replace h := h.2 c6
      refine vv_iload_n hC dX0_layGiven_16 rfl 3 rfl ?_
      refine vv_callSi hC hR hK hRo hRm [.int v3] [] (met_X0_isHeat (vL C) D ac ad S hLay v3 μ4 _ h) gxX0_207 mf_X0_isHeat rfl rfl rfl dX0_layGiven_17 (fun r8 μ7 h => ?_)
      refine vv_if_ne (tgt := 25) hC dX0_layGiven_20 rfl (fun c9 => ?_) (fun c9 => ?_)
      · replace h := h.1 c9
        refine vv_iconst hC dX0_layGiven_25 xic_0 ?_
        refine vv_istore (lv' := [(4, .int 0), (0, .ref (ad 0)), (1, .int v1), (2, .int v2), (3, .int v3)]) hC dX0_layGiven_26 (by decide) rfl ?_
        refine vv_lv [1, 2, 3, 4, 0] rfl ?_
        exact L28  _ _ _ _ _ h
      · replace h := h.2 c9
        refine vv_iconst hC dX0_layGiven_23 xic_0 ?_
        exact vv_zret hC hM dX0_layGiven_24 isB_0 h
def w_X0_drawsOf_26 (S : XS) (P4 : Int32 → Int32 → Int32 → WS → Prop) (s0 : Int32) (s1 : Int32) (v1 : Int32) (v3 : Int32) (μ : WS) (Q : Int32 → WS → Prop) : Prop := (∀ x3 : Int32, x3 = s1 + s0 → P4 v1 x3 (v3 + 1) μ)
def w_X0_drawsOf_4b (S : XS) (P4 : Int32 → Int32 → Int32 → WS → Prop) (v1 : Int32) (v2 : Int32) (v3 : Int32) (μ : WS) (Q : Int32 → WS → Prop) : Prop := ((100 ≤ v3) → Q v2 μ) ∧ ((¬ 100 ≤ v3) → (vp_in v3 100 ∧ ((¬ μ.1 111 v3.toNatClampNeg = v1) → w_X0_drawsOf_26 S P4 0 v2 v1 v3 μ Q) ∧ ((μ.1 111 v3.toNatClampNeg = v1) → w_X0_drawsOf_26 S P4 1 v2 v1 v3 μ Q)))
def w_X0_drawsOf_4 (S : XS) (v1 : Int32) (v2 : Int32) (v3 : Int32) (μ : WS) (Q : Int32 → WS → Prop) : Prop := ∀ P4 : Int32 → Int32 → Int32 → WS → Prop, (∀ (v1 : Int32) (v2 : Int32) (v3 : Int32) (μ : WS), w_X0_drawsOf_4b S  P4 v1 v2 v3 μ Q → P4 v1 v2 v3 μ) → P4 v1 v2 v3 μ
def w_X0_drawsOf (S : XS) (v1 : Int32) (μ : WS) (Q : Int32 → WS → Prop) : Prop := w_X0_drawsOf_4 S v1 0 0 μ Q
abbrev rm_X0_drawsOf : Room := { frames := 0, cells := 0, slots := 0, locals := 0 }
theorem mf_X0_drawsOf : MFact yX0_drawsOf 1 rm_X0_drawsOf := ⟨by decide +kernel, rfl, rfl⟩
set_option maxHeartbeats 4000000 in
theorem met_X0_drawsOf (l : Launch) (D : va_G) (ac : Nat → ClassId) (ad : Nat → Nat) (S : XS) (hLay : LayOk ad (knX S)) (v1 : Int32) (μ : WS) (Q : Int32 → WS → Prop) (h : w_X0_drawsOf S v1 μ Q) : CMet l yX0_drawsOf cX0_drawsOf 4 (some .int) rm_X0_drawsOf D ac ad (knX S) (ExX D ac ad S) [.ref (ad 0), .int v1] μ (qI Q) := by
  refine vv_met (lv := [(0, .ref (ad 0)), (1, .int v1)]) (by decide) hLay exX_ok (Nat.le_of_ble_eq_true rfl) rfl ⟨rfl, rfl⟩ (fun C hC hK hRm hLl hR hM => ?_)
  subst hLl
  have hRo : RoomOk (HPW D ac ad (knX S) (ExX D ac ad S) (vS C)) (vR C) := HPW.room
  have L26 : ∀ (P4 : Int32 → Int32 → Int32 → WS → Prop) (h4 : ∀ (v1 : Int32) (v2 : Int32) (v3 : Int32) (μ : WS), P4 v1 v2 v3 μ → VV C 4 (HPW D ac ad (knX S) (ExX D ac ad S) (vS C)) (vQ C (QcW D ac ad (knX S) (qI Q)) 0 0 (inLay ad (knX S))) (μ, ()) 4 [(0, .ref (ad 0)), (1, .int v1), (2, .int v2), (3, .int v3)] []) (s0 : Int32) (s1 : Int32) (v1 : Int32) (v3 : Int32) (μ : WS), w_X0_drawsOf_26 S P4 s0 s1 v1 v3 μ Q → VV C 4 (HPW D ac ad (knX S) (ExX D ac ad S) (vS C)) (vQ C (QcW D ac ad (knX S) (qI Q)) 0 0 (inLay ad (knX S))) (μ, ()) 26 [(0, .ref (ad 0)), (1, .int v1), (3, .int v3)] [.int s0, .int s1] := by
    intro P4 h4 s0 s1 v1 v3 μ h
    unfold w_X0_drawsOf_26 at h
    refine vv_iadd hC dX0_drawsOf_26 ?_
    refine vv_topi (fun x3 ex3 => ?_)
    replace h := h x3 ex3
    refine vv_istore_n (lv' := [(2, .int x3), (0, .ref (ad 0)), (1, .int v1), (3, .int v3)]) hC dX0_drawsOf_27 rfl (by decide) rfl ?_
    refine vv_iinc (pl := 3) (v := v3 + 1) (lv' := [(3, .int (v3 + 1)), (2, .int x3), (0, .ref (ad 0)), (1, .int v1)]) hC dX0_drawsOf_28 rfl rfl (by decide) rfl ?_
    refine vv_goto (tgt := 4) hC dX0_drawsOf_31 rfl ?_
    refine vv_lv [2, 3, 1, 0] rfl ?_
    exact h4 _ _ _ _ h
  have L4 : ∀ (v1 : Int32) (v2 : Int32) (v3 : Int32) (μ : WS), w_X0_drawsOf_4 S  v1 v2 v3 μ Q → VV C 4 (HPW D ac ad (knX S) (ExX D ac ad S) (vS C)) (vQ C (QcW D ac ad (knX S) (qI Q)) 0 0 (inLay ad (knX S))) (μ, ()) 4 [(0, .ref (ad 0)), (1, .int v1), (2, .int v2), (3, .int v3)] [] := by
    intro  v1 v2 v3 μ h
    refine h (fun v1 v2 v3 μ => VV C 4 (HPW D ac ad (knX S) (ExX D ac ad S) (vS C)) (vQ C (QcW D ac ad (knX S) (qI Q)) 0 0 (inLay ad (knX S))) (μ, ()) 4 [(0, .ref (ad 0)), (1, .int v1), (2, .int v2), (3, .int v3)] []) ?_
    clear h; intro v1 v2 v3 μ h
    have h4 : ∀ (v1 : Int32) (v2 : Int32) (v3 : Int32) (μ : WS), (fun v1 v2 v3 (μ : WS) => VV C 4 (HPW D ac ad (knX S) (ExX D ac ad S) (vS C)) (vQ C (QcW D ac ad (knX S) (qI Q)) 0 0 (inLay ad (knX S))) (μ, ()) 4 [(0, .ref (ad 0)), (1, .int v1), (2, .int v2), (3, .int v3)] []) v1 v2 v3 μ → VV C 4 (HPW D ac ad (knX S) (ExX D ac ad S) (vS C)) (vQ C (QcW D ac ad (knX S) (qI Q)) 0 0 (inLay ad (knX S))) (μ, ()) 4 [(0, .ref (ad 0)), (1, .int v1), (2, .int v2), (3, .int v3)] [] := fun _ _ _ _ h => h
    unfold w_X0_drawsOf_4b at h
    refine vv_iload_n hC dX0_drawsOf_4 rfl 3 rfl ?_
    refine vv_bipush hC dX0_drawsOf_5 xbp_100 ?_
    refine vv_icmp_ge (tgt := 34) hC dX0_drawsOf_7 rfl (fun c1 => ?_) (fun c1 => ?_)
    · replace h := h.1 c1
      refine vv_iload_n hC dX0_drawsOf_34 rfl 2 rfl ?_
      exact vv_iret hC hM dX0_drawsOf_35 h
    · replace h := h.2 c1
      refine vv_iload_n hC dX0_drawsOf_10 rfl 2 rfl ?_
      refine vv_aload_n hC dX0_drawsOf_11 rfl 0 rfl ?_
      refine vv_getf hC hR hK fxX0_42_X0 0 (lx_0 S) rfl dX0_drawsOf_12 ?_
      refine vv_iload_n hC dX0_drawsOf_15 rfl 3 rfl ?_
      obtain ⟨hin132, h⟩ := h
      refine vv_iald hC hR hK 111 (lx_111 S) hin132 dX0_drawsOf_16 ?_
      refine vv_iload_n hC dX0_drawsOf_17 rfl 1 rfl ?_
      refine vv_icmp_ne (tgt := 25) hC dX0_drawsOf_18 rfl (fun c2 => ?_) (fun c2 => ?_)
      · replace h := h.1 c2
        refine vv_iconst hC dX0_drawsOf_25 xic_0 ?_
        refine vv_lv [0, 1, 3] rfl ?_
        exact L26 _ h4 _ _ _ _ _ h
      · replace h := h.2 c2
        refine vv_iconst hC dX0_drawsOf_21 xic_1 ?_
        refine vv_goto (tgt := 26) hC dX0_drawsOf_22 rfl ?_
        refine vv_lv [0, 1, 3] rfl ?_
        exact L26 _ h4 _ _ _ _ _ h
  unfold w_X0_drawsOf at h
  refine vv_iconst hC dX0_drawsOf_0 xic_0 ?_
  refine vv_istore_n (lv' := [(2, .int 0), (0, .ref (ad 0)), (1, .int v1)]) hC dX0_drawsOf_1 rfl (by decide) rfl ?_
  refine vv_iconst hC dX0_drawsOf_2 xic_0 ?_
  refine vv_istore_n (lv' := [(3, .int 0), (2, .int 0), (0, .ref (ad 0)), (1, .int v1)]) hC dX0_drawsOf_3 rfl (by decide) rfl ?_
  refine vv_lv [2, 3, 1, 0] rfl ?_
  exact L4  _ _ _ _ h
def w_X0_luck (S : XS) (v1 : Int32) (v2 : Int32) (v3 : Int32) (v4 : Int32) (μ : WS) (Q : Int32 → WS → Prop) : Prop := (w_X0_isRow S v4 μ (fun r2 μ1 => ((r2 = 0) → Q (-1) μ1) ∧ ((¬ r2 = 0) → (w_X0_layGiven S v1 v2 v3 μ1 (fun r5 μ4 => ((r5 = 0) → Q (-1) μ4) ∧ ((¬ r5 = 0) → (w_X0_drawsOf S v4 μ4 (fun r8 μ7 => Q r8 μ7))))))))
abbrev rm_X0_luck : Room := { frames := 1703, cells := 0, slots := 0, locals := 51084 }
theorem mf_X0_luck : MFact yX0_luck 4 rm_X0_luck := ⟨by decide +kernel, rfl, rfl⟩
set_option maxHeartbeats 4000000 in
theorem met_X0_luck (l : Launch) (D : va_G) (ac : Nat → ClassId) (ad : Nat → Nat) (S : XS) (hLay : LayOk ad (knX S)) (v1 : Int32) (v2 : Int32) (v3 : Int32) (v4 : Int32) (μ : WS) (Q : Int32 → WS → Prop) (h : w_X0_luck S v1 v2 v3 v4 μ Q) : CMet l yX0_luck cX0_luck 5 (some .int) rm_X0_luck D ac ad (knX S) (ExX D ac ad S) [.ref (ad 0), .int v1, .int v2, .int v3, .int v4] μ (qI Q) := by
  refine vv_met (lv := [(0, .ref (ad 0)), (1, .int v1), (2, .int v2), (3, .int v3), (4, .int v4)]) (by decide) hLay exX_ok (Nat.le_of_ble_eq_true rfl) rfl ⟨rfl, rfl⟩ (fun C hC hK hRm hLl hR hM => ?_)
  subst hLl
  have hRo : RoomOk (HPW D ac ad (knX S) (ExX D ac ad S) (vS C)) (vR C) := HPW.room
  unfold w_X0_luck at h
  refine vv_aload_n hC dX0_luck_0 rfl 0 rfl ?_
  refine vv_iload hC dX0_luck_1 4 rfl ?_
  refine vv_callVi hC hR hK hRo hRm [.int v4] [] (met_X0_isRow (vL C) D ac ad S hLay v4 μ _ h) gxX0_192 mf_X0_isRow rfl (lx_0 S) rfl rfl rfl rfl dX0_luck_3 (fun r2 μ1 h => ?_)
  refine vv_if_eq (tgt := 28) hC dX0_luck_6 rfl (fun c3 => ?_) (fun c3 => ?_)
  · replace h := h.1 c3
    refine vv_iconst hC dX0_luck_28 xic_m1 ?_
    exact vv_iret hC hM dX0_luck_29 h
  · replace h := h.2 c3
    refine vv_aload_n hC dX0_luck_9 rfl 0 rfl ?_
    refine vv_iload_n hC dX0_luck_10 rfl 1 rfl ?_
    refine vv_iload_n hC dX0_luck_11 rfl 2 rfl ?_
    refine vv_iload_n hC dX0_luck_12 rfl 3 rfl ?_
    refine vv_callVi hC hR hK hRo hRm [.int v1, .int v2, .int v3] [] (met_X0_layGiven (vL C) D ac ad S hLay v1 v2 v3 μ1 _ h) gxX0_245 mf_X0_layGiven rfl (lx_0 S) rfl rfl rfl rfl dX0_luck_13 (fun r5 μ4 h => ?_)
    refine vv_if_eq (tgt := 28) hC dX0_luck_16 rfl (fun c6 => ?_) (fun c6 => ?_)
    · replace h := h.1 c6
      refine vv_iconst hC dX0_luck_28 xic_m1 ?_
      exact vv_iret hC hM dX0_luck_29 h
    · replace h := h.2 c6
      refine vv_aload_n hC dX0_luck_19 rfl 0 rfl ?_
      refine vv_iload hC dX0_luck_20 4 rfl ?_
      refine vv_callVi hC hR hK hRo hRm [.int v4] [] (met_X0_drawsOf (vL C) D ac ad S hLay v4 μ4 _ h) gxX0_248 mf_X0_drawsOf rfl (lx_0 S) rfl rfl rfl rfl dX0_luck_22 (fun r8 μ7 h => ?_)
      refine vv_goto (tgt := 29) hC dX0_luck_25 rfl ?_
      exact vv_iret hC hM dX0_luck_29 h
def w_X0_likely_94 (S : XS) (P33 : Int32 → Int32 → Int32 → WS → Prop) (s0 : Int32) (v4 : Int32) (v6 : Int32) (μ : WS) (Q : Int32 → WS → Prop) : Prop := P33 v4 s0 (v6 + 1) μ
def w_X0_likely_82 (S : XS) (P33 : Int32 → Int32 → Int32 → WS → Prop) (v4 : Int32) (v6 : Int32) (μ : WS) (Q : Int32 → WS → Prop) : Prop := (vp_in v6 100 ∧ w_X0_likely_94 S P33 (μ.1 111 v6.toNatClampNeg) v4 v6 μ Q)
def w_X0_likely_92 (S : XS) (P33 : Int32 → Int32 → Int32 → WS → Prop) (v4 : Int32) (v5 : Int32) (v6 : Int32) (μ : WS) (Q : Int32 → WS → Prop) : Prop := w_X0_likely_94 S P33 v5 v4 v6 μ Q
def w_X0_likely_33b (S : XS) (P33 : Int32 → Int32 → Int32 → WS → Prop) (v4 : Int32) (v5 : Int32) (v6 : Int32) (μ : WS) (Q : Int32 → WS → Prop) : Prop := ((100 ≤ v6) → ((¬ v4 = 0) → (w_X0_drawsOf S v5 μ (fun r11 μ10 => Q r11 μ10))) ∧ ((v4 = 0) → Q v5 μ)) ∧ ((¬ 100 ≤ v6) → (vp_in v6 100 ∧ (w_X0_drawsOf S (μ.1 111 v6.toNatClampNeg) μ (fun r13 μ12 => (w_X0_drawsOf S v5 μ12 (fun r15 μ14 => (∀ x16 : Int32, x16 = r13 - r15 → ((0 < x16) → w_X0_likely_82 S P33 v4 v6 μ14 Q) ∧ ((¬ 0 < x16) → ((¬ x16 = 0) → w_X0_likely_92 S P33 v4 v5 v6 μ14 Q) ∧ ((x16 = 0) → (vp_in v6 100 ∧ ((v5 ≤ μ14.1 111 v6.toNatClampNeg) → w_X0_likely_92 S P33 v4 v5 v6 μ14 Q) ∧ ((¬ v5 ≤ μ14.1 111 v6.toNatClampNeg) → w_X0_likely_82 S P33 v4 v6 μ14 Q)))))))))))
def w_X0_likely_33 (S : XS) (v4 : Int32) (v5 : Int32) (v6 : Int32) (μ : WS) (Q : Int32 → WS → Prop) : Prop := ∀ P33 : Int32 → Int32 → Int32 → WS → Prop, (∀ (v4 : Int32) (v5 : Int32) (v6 : Int32) (μ : WS), w_X0_likely_33b S  P33 v4 v5 v6 μ Q → P33 v4 v5 v6 μ) → P33 v4 v5 v6 μ
def w_X0_likely (S : XS) (v1 : Int32) (v2 : Int32) (v3 : Int32) (v4 : Int32) (μ : WS) (Q : Int32 → WS → Prop) : Prop := (w_X0_isIn S v4 0 1 μ (fun r2 μ1 => ((r2 = 0) → Q (-1) μ1) ∧ ((¬ r2 = 0) → (w_X0_layGiven S v1 v2 v3 μ1 (fun r5 μ4 => ((¬ r5 = 0) → (∀ x7 : Int32, x7 = μ4.1 111 0 → w_X0_likely_33 S v4 x7 1 μ4 Q)) ∧ ((r5 = 0) → Q (-1) μ4))))))
abbrev rm_X0_likely : Room := { frames := 1703, cells := 0, slots := 0, locals := 51084 }
theorem mf_X0_likely : MFact yX0_likely 4 rm_X0_likely := ⟨by decide +kernel, rfl, rfl⟩
set_option maxHeartbeats 4000000 in
theorem met_X0_likely (l : Launch) (D : va_G) (ac : Nat → ClassId) (ad : Nat → Nat) (S : XS) (hLay : LayOk ad (knX S)) (v1 : Int32) (v2 : Int32) (v3 : Int32) (v4 : Int32) (μ : WS) (Q : Int32 → WS → Prop) (h : w_X0_likely S v1 v2 v3 v4 μ Q) : CMet l yX0_likely cX0_likely 8 (some .int) rm_X0_likely D ac ad (knX S) (ExX D ac ad S) [.ref (ad 0), .int v1, .int v2, .int v3, .int v4] μ (qI Q) := by
  refine vv_met (lv := [(0, .ref (ad 0)), (1, .int v1), (2, .int v2), (3, .int v3), (4, .int v4)]) (by decide) hLay exX_ok (Nat.le_of_ble_eq_true rfl) rfl ⟨rfl, rfl⟩ (fun C hC hK hRm hLl hR hM => ?_)
  subst hLl
  have hRo : RoomOk (HPW D ac ad (knX S) (ExX D ac ad S) (vS C)) (vR C) := HPW.room
  have L94 : ∀ (P33 : Int32 → Int32 → Int32 → WS → Prop) (h33 : ∀ (v4 : Int32) (v5 : Int32) (v6 : Int32) (μ : WS), P33 v4 v5 v6 μ → VV C 8 (HPW D ac ad (knX S) (ExX D ac ad S) (vS C)) (vQ C (QcW D ac ad (knX S) (qI Q)) 0 0 (inLay ad (knX S))) (μ, ()) 33 [(0, .ref (ad 0)), (4, .int v4), (5, .int v5), (6, .int v6)] []) (s0 : Int32) (v4 : Int32) (v6 : Int32) (μ : WS), w_X0_likely_94 S P33 s0 v4 v6 μ Q → VV C 8 (HPW D ac ad (knX S) (ExX D ac ad S) (vS C)) (vQ C (QcW D ac ad (knX S) (qI Q)) 0 0 (inLay ad (knX S))) (μ, ()) 94 [(0, .ref (ad 0)), (4, .int v4), (6, .int v6)] [.int s0] := by
    intro P33 h33 s0 v4 v6 μ h
    unfold w_X0_likely_94 at h
    refine vv_istore (lv' := [(5, .int s0), (0, .ref (ad 0)), (4, .int v4), (6, .int v6)]) hC dX0_likely_94 (by decide) rfl ?_
    refine vv_iinc (pl := 3) (v := v6 + 1) (lv' := [(6, .int (v6 + 1)), (5, .int s0), (0, .ref (ad 0)), (4, .int v4)]) hC dX0_likely_96 rfl rfl (by decide) rfl ?_
    refine vv_goto (tgt := 33) hC dX0_likely_99 rfl ?_
    refine vv_lv [2, 3, 1, 0] rfl ?_
    exact h33 _ _ _ _ h
  have L82 : ∀ (P33 : Int32 → Int32 → Int32 → WS → Prop) (h33 : ∀ (v4 : Int32) (v5 : Int32) (v6 : Int32) (μ : WS), P33 v4 v5 v6 μ → VV C 8 (HPW D ac ad (knX S) (ExX D ac ad S) (vS C)) (vQ C (QcW D ac ad (knX S) (qI Q)) 0 0 (inLay ad (knX S))) (μ, ()) 33 [(0, .ref (ad 0)), (4, .int v4), (5, .int v5), (6, .int v6)] []) (v4 : Int32) (v6 : Int32) (μ : WS), w_X0_likely_82 S P33 v4 v6 μ Q → VV C 8 (HPW D ac ad (knX S) (ExX D ac ad S) (vS C)) (vQ C (QcW D ac ad (knX S) (qI Q)) 0 0 (inLay ad (knX S))) (μ, ()) 82 [(0, .ref (ad 0)), (4, .int v4), (6, .int v6)] [] := by
    intro P33 h33 v4 v6 μ h
    unfold w_X0_likely_82 at h
    refine vv_aload_n hC dX0_likely_82 rfl 0 rfl ?_
    refine vv_getf hC hR hK fxX0_42_X0 0 (lx_0 S) rfl dX0_likely_83 ?_
    refine vv_iload hC dX0_likely_86 2 rfl ?_
    obtain ⟨hin135, h⟩ := h
    refine vv_iald hC hR hK 111 (lx_111 S) hin135 dX0_likely_88 ?_
    refine vv_goto (tgt := 94) hC dX0_likely_89 rfl ?_
    exact L94 _ h33 _ _ _ _ h
  have L92 : ∀ (P33 : Int32 → Int32 → Int32 → WS → Prop) (h33 : ∀ (v4 : Int32) (v5 : Int32) (v6 : Int32) (μ : WS), P33 v4 v5 v6 μ → VV C 8 (HPW D ac ad (knX S) (ExX D ac ad S) (vS C)) (vQ C (QcW D ac ad (knX S) (qI Q)) 0 0 (inLay ad (knX S))) (μ, ()) 33 [(0, .ref (ad 0)), (4, .int v4), (5, .int v5), (6, .int v6)] []) (v4 : Int32) (v5 : Int32) (v6 : Int32) (μ : WS), w_X0_likely_92 S P33 v4 v5 v6 μ Q → VV C 8 (HPW D ac ad (knX S) (ExX D ac ad S) (vS C)) (vQ C (QcW D ac ad (knX S) (qI Q)) 0 0 (inLay ad (knX S))) (μ, ()) 92 [(0, .ref (ad 0)), (4, .int v4), (5, .int v5), (6, .int v6)] [] := by
    intro P33 h33 v4 v5 v6 μ h
    unfold w_X0_likely_92 at h
    refine vv_iload hC dX0_likely_92 2 rfl ?_
    refine vv_lv [0, 1, 3] rfl ?_
    exact L94 _ h33 _ _ _ _ h
  have L33 : ∀ (v4 : Int32) (v5 : Int32) (v6 : Int32) (μ : WS), w_X0_likely_33 S  v4 v5 v6 μ Q → VV C 8 (HPW D ac ad (knX S) (ExX D ac ad S) (vS C)) (vQ C (QcW D ac ad (knX S) (qI Q)) 0 0 (inLay ad (knX S))) (μ, ()) 33 [(0, .ref (ad 0)), (4, .int v4), (5, .int v5), (6, .int v6)] [] := by
    intro  v4 v5 v6 μ h
    refine h (fun v4 v5 v6 μ => VV C 8 (HPW D ac ad (knX S) (ExX D ac ad S) (vS C)) (vQ C (QcW D ac ad (knX S) (qI Q)) 0 0 (inLay ad (knX S))) (μ, ()) 33 [(0, .ref (ad 0)), (4, .int v4), (5, .int v5), (6, .int v6)] []) ?_
    clear h; intro v4 v5 v6 μ h
    have h33 : ∀ (v4 : Int32) (v5 : Int32) (v6 : Int32) (μ : WS), (fun v4 v5 v6 (μ : WS) => VV C 8 (HPW D ac ad (knX S) (ExX D ac ad S) (vS C)) (vQ C (QcW D ac ad (knX S) (qI Q)) 0 0 (inLay ad (knX S))) (μ, ()) 33 [(0, .ref (ad 0)), (4, .int v4), (5, .int v5), (6, .int v6)] []) v4 v5 v6 μ → VV C 8 (HPW D ac ad (knX S) (ExX D ac ad S) (vS C)) (vQ C (QcW D ac ad (knX S) (qI Q)) 0 0 (inLay ad (knX S))) (μ, ()) 33 [(0, .ref (ad 0)), (4, .int v4), (5, .int v5), (6, .int v6)] [] := fun _ _ _ _ h => h
    unfold w_X0_likely_33b at h
    refine vv_iload hC dX0_likely_33 3 rfl ?_
    refine vv_bipush hC dX0_likely_35 xbp_100 ?_
    refine vv_icmp_ge (tgt := 102) hC dX0_likely_37 rfl (fun c8 => ?_) (fun c8 => ?_)
    · replace h := h.1 c8
      refine vv_iload hC dX0_likely_102 1 rfl ?_
      refine vv_if_ne (tgt := 112) hC dX0_likely_104 rfl (fun c9 => ?_) (fun c9 => ?_)
      · replace h := h.1 c9
        refine vv_aload_n hC dX0_likely_112 rfl 0 rfl ?_
        refine vv_iload hC dX0_likely_113 2 rfl ?_
        refine vv_callVi hC hR hK hRo hRm [.int v5] [] (met_X0_drawsOf (vL C) D ac ad S hLay v5 μ _ h) gxX0_248 mf_X0_drawsOf rfl (lx_0 S) rfl rfl rfl rfl dX0_likely_115 (fun r11 μ10 h => ?_)
        exact vv_iret hC hM dX0_likely_118 h
      · replace h := h.2 c9
        refine vv_iload hC dX0_likely_107 2 rfl ?_
        refine vv_goto (tgt := 118) hC dX0_likely_109 rfl ?_
        exact vv_iret hC hM dX0_likely_118 h
    · replace h := h.2 c8
      refine vv_aload_n hC dX0_likely_40 rfl 0 rfl ?_
      refine vv_aload_n hC dX0_likely_41 rfl 0 rfl ?_
      refine vv_getf hC hR hK fxX0_42_X0 0 (lx_0 S) rfl dX0_likely_42 ?_
      refine vv_iload hC dX0_likely_45 3 rfl ?_
      obtain ⟨hin133, h⟩ := h
      refine vv_iald hC hR hK 111 (lx_111 S) hin133 dX0_likely_47 ?_
      refine vv_callVi hC hR hK hRo hRm [.int (μ.1 111 v6.toNatClampNeg)] [] (met_X0_drawsOf (vL C) D ac ad S hLay (μ.1 111 v6.toNatClampNeg) μ _ h) gxX0_248 mf_X0_drawsOf rfl (lx_0 S) rfl rfl rfl rfl dX0_likely_48 (fun r13 μ12 h => ?_)
      refine vv_aload_n hC dX0_likely_51 rfl 0 rfl ?_
      refine vv_iload hC dX0_likely_52 2 rfl ?_
      refine vv_callVi hC hR hK hRo hRm [.int v5] [.int r13] (met_X0_drawsOf (vL C) D ac ad S hLay v5 μ12 _ h) gxX0_248 mf_X0_drawsOf rfl (lx_0 S) rfl rfl rfl rfl dX0_likely_54 (fun r15 μ14 h => ?_)
      refine vv_isub hC dX0_likely_57 ?_
      refine vv_topi (fun x16 ex16 => ?_)
      replace h := h x16 ex16
      refine vv_istore (lv' := [(7, .int x16), (0, .ref (ad 0)), (4, .int v4), (5, .int v5), (6, .int v6)]) hC dX0_likely_58 (by decide) rfl ?_
      refine vv_iload hC dX0_likely_60 0 rfl ?_
      refine vv_if_gt (tgt := 82) hC dX0_likely_62 rfl (fun c17 => ?_) (fun c17 => ?_)
      · replace h := h.1 c17
        refine vv_lv [1, 2, 4] rfl ?_
        exact L82 _ h33 _ _ _ h
      · replace h := h.2 c17
        refine vv_iload hC dX0_likely_65 0 rfl ?_
        refine vv_if_ne (tgt := 92) hC dX0_likely_67 rfl (fun c18 => ?_) (fun c18 => ?_)
        · replace h := h.1 c18
          refine vv_lv [1, 2, 3, 4] rfl ?_
          exact L92 _ h33 _ _ _ _ h
        · replace h := h.2 c18
          refine vv_aload_n hC dX0_likely_70 rfl 1 rfl ?_
          refine vv_getf hC hR hK fxX0_42_X0 0 (lx_0 S) rfl dX0_likely_71 ?_
          refine vv_iload hC dX0_likely_74 4 rfl ?_
          obtain ⟨hin134, h⟩ := h
          refine vv_iald hC hR hK 111 (lx_111 S) hin134 dX0_likely_76 ?_
          refine vv_iload hC dX0_likely_77 3 rfl ?_
          refine vv_icmp_ge (tgt := 92) hC dX0_likely_79 rfl (fun c19 => ?_) (fun c19 => ?_)
          · replace h := h.1 c19
            refine vv_lv [1, 2, 3, 4] rfl ?_
            exact L92 _ h33 _ _ _ _ h
          · replace h := h.2 c19
            refine vv_lv [1, 2, 4] rfl ?_
            exact L82 _ h33 _ _ _ h
  unfold w_X0_likely at h
  refine vv_iload hC dX0_likely_0 4 rfl ?_
  refine vv_iconst hC dX0_likely_2 xic_0 ?_
  refine vv_iconst hC dX0_likely_3 xic_1 ?_
  refine vv_callSi hC hR hK hRo hRm [.int v4, .int 0, .int 1] [] (met_X0_isIn (vL C) D ac ad S hLay v4 0 1 μ _ h) gxX0_150 mf_X0_isIn rfl rfl rfl dX0_likely_4 (fun r2 μ1 h => ?_)
  refine vv_if_eq (tgt := 20) hC dX0_likely_7 rfl (fun c3 => ?_) (fun c3 => ?_)
  · replace h := h.1 c3
    refine vv_iconst hC dX0_likely_20 xic_m1 ?_
    exact vv_iret hC hM dX0_likely_21 h
  · replace h := h.2 c3
    refine vv_aload_n hC dX0_likely_10 rfl 0 rfl ?_
    refine vv_iload_n hC dX0_likely_11 rfl 1 rfl ?_
    refine vv_iload_n hC dX0_likely_12 rfl 2 rfl ?_
    refine vv_iload_n hC dX0_likely_13 rfl 3 rfl ?_
    refine vv_callVi hC hR hK hRo hRm [.int v1, .int v2, .int v3] [] (met_X0_layGiven (vL C) D ac ad S hLay v1 v2 v3 μ1 _ h) gxX0_245 mf_X0_layGiven rfl (lx_0 S) rfl rfl rfl rfl dX0_likely_14 (fun r5 μ4 h => ?_)
    refine vv_if_ne (tgt := 22) hC dX0_likely_17 rfl (fun c6 => ?_) (fun c6 => ?_)
    · replace h := h.1 c6
      refine vv_aload_n hC dX0_likely_22 rfl 0 rfl ?_
      refine vv_getf hC hR hK fxX0_42_X0 0 (lx_0 S) rfl dX0_likely_23 ?_
      refine vv_iconst hC dX0_likely_26 xic_0 ?_
      refine vv_iald hC hR hK 111 (lx_111 S) xvin_0_100 dX0_likely_27 ?_
      refine vv_topi (fun x7 ex7 => ?_)
      replace h := h x7 ex7
      refine vv_istore (lv' := [(5, .int x7), (0, .ref (ad 0)), (1, .int v1), (2, .int v2), (3, .int v3), (4, .int v4)]) hC dX0_likely_28 (by decide) rfl ?_
      refine vv_iconst hC dX0_likely_30 xic_1 ?_
      refine vv_istore (lv' := [(6, .int 1), (5, .int x7), (0, .ref (ad 0)), (1, .int v1), (2, .int v2), (3, .int v3), (4, .int v4)]) hC dX0_likely_31 (by decide) rfl ?_
      refine vv_lv [2, 6, 1, 0] rfl ?_
      exact L33  _ _ _ _ h
    · replace h := h.2 c6
      refine vv_iconst hC dX0_likely_20 xic_m1 ?_
      exact vv_iret hC hM dX0_likely_21 h
