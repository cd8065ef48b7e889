set_option maxRecDepth 100000
theorem xbp_8 : (Int8.ofInt 8).toInt32 = 8 := by decide
theorem xbp_16 : (Int8.ofInt 16).toInt32 = 16 := by decide
theorem xbp_24 : (Int8.ofInt 24).toInt32 = 24 := by decide
theorem xbp_40 : (Int8.ofInt 40).toInt32 = 40 := by decide
theorem xbp_63 : (Int8.ofInt 63).toInt32 = 63 := by decide
theorem xic_m1 : Int32.ofInt (-1) = (-1) := by decide
theorem xic_0 : Int32.ofInt 0 = 0 := by decide
theorem xic_1 : Int32.ofInt 1 = 1 := by decide
theorem xic_2 : Int32.ofInt 2 = 2 := by decide
theorem xic_4 : Int32.ofInt 4 = 4 := by decide
theorem xvin_0_24 : vp_in 0 24 := by unfold vp_in; decide
theorem fxJ2_48_J2 : FAcc RJ2 48 11 3 2 .int false := ⟨RJ2, TJ2, tyJ2, rfl, by decide, in_J2, q175, tyJ2_ok, nmJ2, rfl, rfl⟩
theorem fxJ2_9_J2 : FAcc RJ2 9 11 3 1 (.array (.object "java/lang/Object")) false := ⟨RJ2, TJ2, tyJ2, rfl, by decide, in_J2, q174, tyJ2_ok, nmJ2, rfl, rfl⟩
theorem fxX1_14_X1 : FAcc RX1 14 1 7 0 (.object "java/util/ArrayList") true := ⟨RX1, TX1, tyX1, rfl, by decide, in_X1, q226, tyX1_ok, nmX1, rfl, rfl⟩
theorem fxX1_23_X1 : FAcc RX1 23 1 7 1 (.object "SealCasts$Ask") true := ⟨RX1, TX1, tyX1, rfl, by decide, in_X1, q229, tyX1_ok, nmX1, rfl, rfl⟩
theorem fxX1_27_X1 : FAcc RX1 27 1 7 2 .int false := ⟨RX1, TX1, tyX1, rfl, by decide, in_X1, q230, tyX1_ok, nmX1, rfl, rfl⟩
theorem fxX1_63_X2 : FAcc RX1 63 2 8 4 .int false := ⟨RX2, TX2, tyX2, rfl, by decide, in_X2, q202, tyX2_ok, nmX2, rfl, rfl⟩
theorem fxX1_66_X2 : FAcc RX1 66 2 8 5 .int false := ⟨RX2, TX2, tyX2, rfl, by decide, in_X2, q204, tyX2_ok, nmX2, rfl, rfl⟩
theorem fxX1_69_X2 : FAcc RX1 69 2 8 6 .int false := ⟨RX2, TX2, tyX2, rfl, by decide, in_X2, q206, tyX2_ok, nmX2, rfl, rfl⟩
theorem fxX1_72_X2 : FAcc RX1 72 2 8 7 .int false := ⟨RX2, TX2, tyX2, rfl, by decide, in_X2, q208, tyX2_ok, nmX2, rfl, rfl⟩
theorem fxX1_75_X2 : FAcc RX1 75 2 8 0 .int false := ⟨RX2, TX2, tyX2, rfl, by decide, in_X2, q194, tyX2_ok, nmX2, rfl, rfl⟩
theorem fxX1_78_X2 : FAcc RX1 78 2 8 1 .int false := ⟨RX2, TX2, tyX2, rfl, by decide, in_X2, q196, tyX2_ok, nmX2, rfl, rfl⟩
theorem fxX1_81_X2 : FAcc RX1 81 2 8 2 .int false := ⟨RX2, TX2, tyX2, rfl, by decide, in_X2, q198, tyX2_ok, nmX2, rfl, rfl⟩
theorem fxX1_84_X2 : FAcc RX1 84 2 8 3 .int false := ⟨RX2, TX2, tyX2, rfl, by decide, in_X2, q200, tyX2_ok, nmX2, rfl, rfl⟩
theorem fxX1_87_X10 : FAcc RX1 87 10 3 1 (.object "SealCasts$Node") true := ⟨RX10, TX10, tyX10, rfl, by decide, in_X10, q1001, tyX10_ok, nmX10, rfl, rfl⟩
theorem fxX1_97_X10 : FAcc RX1 97 10 3 2 (.object "SealCasts$Node") true := ⟨RX10, TX10, tyX10, rfl, by decide, in_X10, q1003, tyX10_ok, nmX10, rfl, rfl⟩
theorem fxX3_15_X3 : FAcc RX3 15 3 12 1 (.array .int) true := ⟨RX3, TX3, tyX3, rfl, by decide, in_X3, q266, tyX3_ok, nmX3, rfl, rfl⟩
theorem fxX3_18_X3 : FAcc RX3 18 3 12 2 (.array .int) true := ⟨RX3, TX3, tyX3, rfl, by decide, in_X3, q268, tyX3_ok, nmX3, rfl, rfl⟩
theorem fxX3_21_X3 : FAcc RX3 21 3 12 3 (.array .int) true := ⟨RX3, TX3, tyX3, rfl, by decide, in_X3, q270, tyX3_ok, nmX3, rfl, rfl⟩
theorem fxX3_24_X3 : FAcc RX3 24 3 12 4 (.array .int) true := ⟨RX3, TX3, tyX3, rfl, by decide, in_X3, q273, tyX3_ok, nmX3, rfl, rfl⟩
theorem fxX3_27_X3 : FAcc RX3 27 3 12 5 (.array .int) true := ⟨RX3, TX3, tyX3, rfl, by decide, in_X3, q275, tyX3_ok, nmX3, rfl, rfl⟩
theorem fxX3_30_X3 : FAcc RX3 30 3 12 6 (.array .int) true := ⟨RX3, TX3, tyX3, rfl, by decide, in_X3, q277, tyX3_ok, nmX3, rfl, rfl⟩
theorem fxX3_33_X1 : FAcc RX3 33 1 7 3 .int false := ⟨RX1, TX1, tyX1, rfl, by decide, in_X1, q233, tyX1_ok, nmX1, rfl, rfl⟩
theorem fxX3_39_X3 : FAcc RX3 39 3 12 7 .int false := ⟨RX3, TX3, tyX3, rfl, by decide, in_X3, q280, tyX3_ok, nmX3, rfl, rfl⟩
theorem fxX3_42_X3 : FAcc RX3 42 3 12 8 .int false := ⟨RX3, TX3, tyX3, rfl, by decide, in_X3, q282, tyX3_ok, nmX3, rfl, rfl⟩
theorem fxX3_45_X1 : FAcc RX3 45 1 7 4 .int false := ⟨RX1, TX1, tyX1, rfl, by decide, in_X1, q236, tyX1_ok, nmX1, rfl, rfl⟩
theorem fxX3_48_X3 : FAcc RX3 48 3 12 9 .int false := ⟨RX3, TX3, tyX3, rfl, by decide, in_X3, q284, tyX3_ok, nmX3, rfl, rfl⟩
theorem fxX3_49_X3 : FAcc RX3 49 3 12 10 .int false := ⟨RX3, TX3, tyX3, rfl, by decide, in_X3, q286, tyX3_ok, nmX3, rfl, rfl⟩
theorem fxX3_52_X1 : FAcc RX3 52 1 7 5 .int false := ⟨RX1, TX1, tyX1, rfl, by decide, in_X1, q238, tyX1_ok, nmX1, rfl, rfl⟩
theorem fxX3_55_X3 : FAcc RX3 55 3 12 11 .int false := ⟨RX3, TX3, tyX3, rfl, by decide, in_X3, q288, tyX3_ok, nmX3, rfl, rfl⟩
theorem fxX3_9_X3 : FAcc RX3 9 3 12 0 (.array .int) true := ⟨RX3, TX3, tyX3, rfl, by decide, in_X3, q263, tyX3_ok, nmX3, rfl, rfl⟩
theorem gxJ14_105 : GoodIn lw_all (va_wsS RJ14 105 yJ11_checkIndex (ws_ yJ11_checkIndex cJ11_checkIndex 3 (some .int))) := lw_S q893 q628 q127 q629
theorem gxJ2_118 : GoodIn lw_all (va_wsS RJ2 118 yJ14_checkIndex (ws_ yJ14_checkIndex cJ14_checkIndex 2 (some .int))) := lw_S q890 q891 q131 q892
theorem gxJ2_123 : GoodIn lw_all (wsV RJ2 123 RJ2 yJ2_elementData (ws_ yJ2_elementData cJ2_elementData 2 (some (.object "java/lang/Object")))) := lw_V q894 q895 q896 q113 q897
theorem gxX1_38 : GoodIn lw_all (wsV RX1 38 RJ2 yJ2_get (ws_ yJ2_get cJ2_get 2 (some (.object "java/lang/Object")))) := lw_V q886 q887 q888 q113 q889
theorem gxX1_54 : GoodIn lw_all (wsV RX1 54 RX1 yX1_turn (ws_ yX1_turn cX1_turn 4 (some .int))) := lw_V q1145 q1127 q1128 q110 q1129
theorem gxX1_58 : GoodIn lw_all (va_wsS RX1 58 yJ15_bitCount (ws_ yJ15_bitCount cJ15_bitCount 1 (some .int))) := lw_S q1146 q1147 q138 q1148
theorem cwX3_56 : CpyW RX3 56 := ⟨q1239, q576, q575, q125⟩
def w_J15_bitCount (S : XS) (v0 : Int32) (μ : WS) (Q : Int32 → WS → Prop) : Prop := (∀ x1 : Int32, x1 = v0 - (((v0.toUInt32 >>> ((1 : Int32).toUInt32 &&& Int32.toUInt32 31)).toInt32) &&& 1431655765) → (∀ x2 : Int32, x2 = (x1 &&& 858993459) + (((x1.toUInt32 >>> ((2 : Int32).toUInt32 &&& Int32.toUInt32 31)).toInt32) &&& 858993459) → (∀ x3 : Int32, x3 = (x2 + ((x2.toUInt32 >>> ((4 : Int32).toUInt32 &&& Int32.toUInt32 31)).toInt32)) &&& 252645135 → (∀ x4 : Int32, x4 = x3 + ((x3.toUInt32 >>> ((8 : Int32).toUInt32 &&& Int32.toUInt32 31)).toInt32) → (∀ x5 : Int32, x5 = x4 + ((x4.toUInt32 >>> ((16 : Int32).toUInt32 &&& Int32.toUInt32 31)).toInt32) → Q (x5 &&& 63) μ)))))
abbrev rm_J15_bitCount : Room := { frames := 0, cells := 0, slots := 0, locals := 0 }
theorem mf_J15_bitCount : MFact yJ15_bitCount 1 rm_J15_bitCount := ⟨by decide +kernel, rfl, rfl⟩
set_option maxHeartbeats 4000000 in
theorem met_J15_bitCount (l : Launch) (D : va_G) (ac : Nat → ClassId) (ad : Nat → Nat) (S : XS) (hLay : LayOk ad (knX S)) (v0 : Int32) (μ : WS) (Q : Int32 → WS → Prop) (h : w_J15_bitCount S v0 μ Q) : CMet l yJ15_bitCount cJ15_bitCount 1 (some .int) rm_J15_bitCount D ac ad (knX S) (ExX D ac ad S) [.int v0] μ (qI Q) := by
  refine vv_met (lv := [(0, .int v0)]) (by decide) hLay exX_ok (Nat.le_of_ble_eq_true rfl) rfl ⟨rfl, rfl⟩ (fun C hC hK hRm hLl hR hM => ?_)
  subst hLl
  have hRo : RoomOk (HPW D ac ad (knX S) (ExX D ac ad S) (vS C)) (vR C) := HPW.room
  unfold w_J15_bitCount at h
  refine vv_iload_n hC dJ15_bitCount_0 rfl 0 rfl ?_
  refine vv_iload_n hC dJ15_bitCount_1 rfl 0 rfl ?_
  refine vv_iconst hC dJ15_bitCount_2 xic_1 ?_
  refine vv_iushr hC dJ15_bitCount_3 ?_
  refine vv_ldcw hC q1149 dJ15_bitCount_4 ?_
  refine vv_iand hC dJ15_bitCount_7 ?_
  refine vv_isub hC dJ15_bitCount_8 ?_
  refine vv_topi (fun x1 ex1 => ?_)
  replace h := h x1 ex1
  refine vv_istore_n (lv' := [(0, .int x1)]) hC dJ15_bitCount_9 rfl (by decide) rfl ?_
  refine vv_iload_n hC dJ15_bitCount_10 rfl 0 rfl ?_
  refine vv_ldcw hC q1150 dJ15_bitCount_11 ?_
  refine vv_iand hC dJ15_bitCount_14 ?_
  refine vv_iload_n hC dJ15_bitCount_15 rfl 0 rfl ?_
  refine vv_iconst hC dJ15_bitCount_16 xic_2 ?_
  refine vv_iushr hC dJ15_bitCount_17 ?_
  refine vv_ldcw hC q1150 dJ15_bitCount_18 ?_
  refine vv_iand hC dJ15_bitCount_21 ?_
  refine vv_iadd hC dJ15_bitCount_22 ?_
  refine vv_topi (fun x2 ex2 => ?_)
  replace h := h x2 ex2
  refine vv_istore_n (lv' := [(0, .int x2)]) hC dJ15_bitCount_23 rfl (by decide) rfl ?_
  refine vv_iload_n hC dJ15_bitCount_24 rfl 0 rfl ?_
  refine vv_iload_n hC dJ15_bitCount_25 rfl 0 rfl ?_
  refine vv_iconst hC dJ15_bitCount_26 xic_4 ?_
  refine vv_iushr hC dJ15_bitCount_27 ?_
  refine vv_iadd hC dJ15_bitCount_28 ?_
  refine vv_ldcw hC q1151 dJ15_bitCount_29 ?_
  refine vv_iand hC dJ15_bitCount_32 ?_
  refine vv_topi (fun x3 ex3 => ?_)
  replace h := h x3 ex3
  refine vv_istore_n (lv' := [(0, .int x3)]) hC dJ15_bitCount_33 rfl (by decide) rfl ?_
  refine vv_iload_n hC dJ15_bitCount_34 rfl 0 rfl ?_
  refine vv_iload_n hC dJ15_bitCount_35 rfl 0 rfl ?_
  refine vv_bipush hC dJ15_bitCount_36 xbp_8 ?_
  refine vv_iushr hC dJ15_bitCount_38 ?_
  refine vv_iadd hC dJ15_bitCount_39 ?_
  refine vv_topi (fun x4 ex4 => ?_)
  replace h := h x4 ex4
  refine vv_istore_n (lv' := [(0, .int x4)]) hC dJ15_bitCount_40 rfl (by decide) rfl ?_
  refine vv_iload_n hC dJ15_bitCount_41 rfl 0 rfl ?_
  refine vv_iload_n hC dJ15_bitCount_42 rfl 0 rfl ?_
  refine vv_bipush hC dJ15_bitCount_43 xbp_16 ?_
  refine vv_iushr hC dJ15_bitCount_45 ?_
  refine vv_iadd hC dJ15_bitCount_46 ?_
  refine vv_topi (fun x5 ex5 => ?_)
  replace h := h x5 ex5
  refine vv_istore_n (lv' := [(0, .int x5)]) hC dJ15_bitCount_47 rfl (by decide) rfl ?_
  refine vv_iload_n hC dJ15_bitCount_48 rfl 0 rfl ?_
  refine vv_bipush hC dJ15_bitCount_49 xbp_63 ?_
  refine vv_iand hC dJ15_bitCount_51 ?_
  exact vv_iret hC hM dJ15_bitCount_52 h
def w_J11_checkIndex_9 (S : XS) (v0 : Int32) (v1 : Int32) (μ : WS) (Q : Int32 → WS → Prop) : Prop := False
def w_J11_checkIndex (S : XS) (v0 : Int32) (v1 : Int32) (μ : WS) (Q : Int32 → WS → Prop) : Prop := ((v0 < 0) → w_J11_checkIndex_9 S v0 v1 μ Q) ∧ ((¬ v0 < 0) → ((v0 < v1) → Q v0 μ) ∧ ((¬ v0 < v1) → w_J11_checkIndex_9 S v0 v1 μ Q))
abbrev rm_J11_checkIndex : Room := { frames := 0, cells := 0, slots := 0, locals := 0 }
theorem mf_J11_checkIndex : MFact yJ11_checkIndex 3 rm_J11_checkIndex := ⟨by decide +kernel, rfl, rfl⟩
set_option maxHeartbeats 4000000 in
theorem met_J11_checkIndex (l : Launch) (D : va_G) (ac : Nat → ClassId) (ad : Nat → Nat) (S : XS) (hLay : LayOk ad (knX S)) (v0 : Int32) (v1 : Int32) (μ : WS) (Q : Int32 → WS → Prop) (h : w_J11_checkIndex S v0 v1 μ Q) : CMet l yJ11_checkIndex cJ11_checkIndex 3 (some .int) rm_J11_checkIndex D ac ad (knX S) (ExX D ac ad S) [.int v0, .int v1, .null] μ (qI Q) := by
  refine vv_met (lv := [(0, .int v0), (1, .int v1), (2, .null)]) (by decide) hLay exX_ok (Nat.le_of_ble_eq_true rfl) rfl ⟨rfl, rfl⟩ (fun C hC hK hRm hLl hR hM => ?_)
  subst hLl
  have hRo : RoomOk (HPW D ac ad (knX S) (ExX D ac ad S) (vS C)) (vR C) := HPW.room
  have L9 : ∀ (v0 : Int32) (v1 : Int32) (μ : WS), w_J11_checkIndex_9 S  v0 v1 μ Q → VV C 3 (HPW D ac ad (knX S) (ExX D ac ad S) (vS C)) (vQ C (QcW D ac ad (knX S) (qI Q)) 0 0 (inLay ad (knX S))) (μ, ()) 9 [(0, .int v0), (1, .int v1), (2, .null)] [] := by
    intro  v0 v1 μ h
    unfold w_J11_checkIndex_9 at h
    refine vv_aload_nN hC dJ11_checkIndex_9 rfl 2 rfl ?_
    refine vv_iload_n hC dJ11_checkIndex_10 rfl 0 rfl ?_
    refine vv_iload_n hC dJ11_checkIndex_11 rfl 1 rfl ?_
    exact False.elim h
  unfold w_J11_checkIndex at h
  refine vv_iload_n hC dJ11_checkIndex_0 rfl 0 rfl ?_
  refine vv_if_lt (tgt := 9) hC dJ11_checkIndex_1 rfl (fun c1 => ?_) (fun c1 => ?_)
  · replace h := h.1 c1
    exact L9  _ _ _ h
  · replace h := h.2 c1
    refine vv_iload_n hC dJ11_checkIndex_4 rfl 0 rfl ?_
    refine vv_iload_n hC dJ11_checkIndex_5 rfl 1 rfl ?_
    refine vv_icmp_lt (tgt := 16) hC dJ11_checkIndex_6 rfl (fun c2 => ?_) (fun c2 => ?_)
    · replace h := h.1 c2
      refine vv_iload_n hC dJ11_checkIndex_16 rfl 0 rfl ?_
      exact vv_iret hC hM dJ11_checkIndex_17 h
    · replace h := h.2 c2
      exact L9  _ _ _ h
def w_J14_checkIndex (S : XS) (v0 : Int32) (v1 : Int32) (μ : WS) (Q : Int32 → WS → Prop) : Prop := (w_J11_checkIndex S v0 v1 μ (fun r2 μ1 => Q r2 μ1))
abbrev rm_J14_checkIndex : Room := { frames := 1, cells := 0, slots := 0, locals := 22 }
theorem mf_J14_checkIndex : MFact yJ14_checkIndex 2 rm_J14_checkIndex := ⟨by decide +kernel, rfl, rfl⟩
set_option maxHeartbeats 4000000 in
theorem met_J14_checkIndex (l : Launch) (D : va_G) (ac : Nat → ClassId) (ad : Nat → Nat) (S : XS) (hLay : LayOk ad (knX S)) (v0 : Int32) (v1 : Int32) (μ : WS) (Q : Int32 → WS → Prop) (h : w_J14_checkIndex S v0 v1 μ Q) : CMet l yJ14_checkIndex cJ14_checkIndex 2 (some .int) rm_J14_checkIndex D ac ad (knX S) (ExX D ac ad S) [.int v0, .int v1] μ (qI Q) := by
  refine vv_met (lv := [(0, .int v0), (1, .int v1)]) (by decide) hLay exX_ok (Nat.le_of_ble_eq_true rfl) rfl ⟨rfl, rfl⟩ (fun C hC hK hRm hLl hR hM => ?_)
  subst hLl
  have hRo : RoomOk (HPW D ac ad (knX S) (ExX D ac ad S) (vS C)) (vR C) := HPW.room
  unfold w_J14_checkIndex at h
  refine vv_iload_n hC dJ14_checkIndex_0 rfl 0 rfl ?_
  refine vv_iload_n hC dJ14_checkIndex_1 rfl 1 rfl ?_
  refine vv_null hC dJ14_checkIndex_2 ?_
  refine vv_callSi hC hR hK hRo hRm [.int v0, .int v1, .null] [] (met_J11_checkIndex (vL C) D ac ad S hLay v0 v1 μ _ h) gxJ14_105 mf_J11_checkIndex rfl rfl rfl dJ14_checkIndex_3 (fun r2 μ1 h => ?_)
  exact vv_iret hC hM dJ14_checkIndex_6 h
def w_J2_size_133 (S : XS) (μ : WS) (Q : Int32 → WS → Prop) : Prop := Q (μ.1 133 2) μ
abbrev rm_J2_size_133 : Room := { frames := 0, cells := 0, slots := 0, locals := 0 }
theorem mf_J2_size_133 : MFact yJ2_size 0 rm_J2_size_133 := ⟨by decide +kernel, rfl, rfl⟩
set_option maxHeartbeats 4000000 in
theorem met_J2_size_133 (l : Launch) (D : va_G) (ac : Nat → ClassId) (ad : Nat → Nat) (S : XS) (hLay : LayOk ad (knX S)) (μ : WS) (Q : Int32 → WS → Prop) (h : w_J2_size_133 S  μ Q) : CMet l yJ2_size cJ2_size 1 (some .int) rm_J2_size_133 D ac ad (knX S) (ExX D ac ad S) [.ref (ad 133)] μ (qI Q) := by
  refine vv_met (lv := [(0, .ref (ad 133))]) (by decide) hLay exX_ok (Nat.le_of_ble_eq_true rfl) rfl ⟨rfl, rfl⟩ (fun C hC hK hRm hLl hR hM => ?_)
  subst hLl
  have hRo : RoomOk (HPW D ac ad (knX S) (ExX D ac ad S) (vS C)) (vR C) := HPW.room
  unfold w_J2_size_133 at h
  refine vv_aload_n hC dJ2_size_0 rfl 0 rfl ?_
  refine vv_getf hC hR hK fxJ2_48_J2 133 (lx_133 S) rfl dJ2_size_1 ?_
  exact vv_iret hC hM dJ2_size_4 h
def w_J2_size_120 (S : XS) (μ : WS) (Q : Int32 → WS → Prop) : Prop := Q (μ.1 120 2) μ
abbrev rm_J2_size_120 : Room := { frames := 0, cells := 0, slots := 0, locals := 0 }
theorem mf_J2_size_120 : MFact yJ2_size 0 rm_J2_size_120 := ⟨by decide +kernel, rfl, rfl⟩
set_option maxHeartbeats 4000000 in
theorem met_J2_size_120 (l : Launch) (D : va_G) (ac : Nat → ClassId) (ad : Nat → Nat) (S : XS) (hLay : LayOk ad (knX S)) (μ : WS) (Q : Int32 → WS → Prop) (h : w_J2_size_120 S  μ Q) : CMet l yJ2_size cJ2_size 1 (some .int) rm_J2_size_120 D ac ad (knX S) (ExX D ac ad S) [.ref (ad 120)] μ (qI Q) := by
  refine vv_met (lv := [(0, .ref (ad 120))]) (by decide) hLay exX_ok (Nat.le_of_ble_eq_true rfl) rfl ⟨rfl, rfl⟩ (fun C hC hK hRm hLl hR hM => ?_)
  subst hLl
  have hRo : RoomOk (HPW D ac ad (knX S) (ExX D ac ad S) (vS C)) (vR C) := HPW.room
  unfold w_J2_size_120 at h
  refine vv_aload_n hC dJ2_size_0 rfl 0 rfl ?_
  refine vv_getf hC hR hK fxJ2_48_J2 120 (lx_120 S) rfl dJ2_size_1 ?_
  exact vv_iret hC hM dJ2_size_4 h
def w_J2_elementData_133 (S : XS) (v1 : Int32) (μ : WS) (Q : Nat → WS → Prop) : Prop := (vp_in v1 S.2.2.2.2.1 ∧ (∃ b1 : Nat, μ.2.2 134 v1.toNatClampNeg = some b1 ∧ Q b1 μ))
abbrev rm_J2_elementData_133 : Room := { frames := 0, cells := 0, slots := 0, locals := 0 }
theorem mf_J2_elementData_133 : MFact yJ2_elementData 1 rm_J2_elementData_133 := ⟨by decide +kernel, rfl, rfl⟩
set_option maxHeartbeats 4000000 in
theorem met_J2_elementData_133 (l : Launch) (D : va_G) (ac : Nat → ClassId) (ad : Nat → Nat) (S : XS) (hLay : LayOk ad (knX S)) (v1 : Int32) (μ : WS) (Q : Nat → WS → Prop) (h : w_J2_elementData_133 S v1 μ Q) : CMet l yJ2_elementData cJ2_elementData 2 (some (.object "java/lang/Object")) rm_J2_elementData_133 D ac ad (knX S) (ExX D ac ad S) [.ref (ad 133), .int v1] μ (qR ad Q) := by
  refine vv_met (lv := [(0, .ref (ad 133)), (1, .int v1)]) (by decide) hLay exX_ok (Nat.le_of_ble_eq_true rfl) rfl ⟨rfl, rfl⟩ (fun C hC hK hRm hLl hR hM => ?_)
  subst hLl
  have hRo : RoomOk (HPW D ac ad (knX S) (ExX D ac ad S) (vS C)) (vR C) := HPW.room
  unfold w_J2_elementData_133 at h
  refine vv_aload_n hC dJ2_elementData_0 rfl 0 rfl ?_
  refine vv_getf hC hR hK fxJ2_9_J2 133 (lx_133 S) rfl dJ2_elementData_1 ?_
  refine vv_iload_n hC dJ2_elementData_4 rfl 1 rfl ?_
  obtain ⟨hin1, h⟩ := h
  obtain ⟨b1, hb2, h⟩ := h
  refine vv_aald hC hR hK 134 (t := 4) rfl (by decide) rfl (lx_134 S) hin1 hb2 dJ2_elementData_5 ?_
  exact vv_aret hC hM dJ2_elementData_6 h
def w_J2_elementData_120 (S : XS) (v1 : Int32) (μ : WS) (Q : Nat → WS → Prop) : Prop := (vp_in v1 S.2.2.1 ∧ (∃ b1 : Nat, μ.2.2 135 v1.toNatClampNeg = some b1 ∧ Q b1 μ))
abbrev rm_J2_elementData_120 : Room := { frames := 0, cells := 0, slots := 0, locals := 0 }
theorem mf_J2_elementData_120 : MFact yJ2_elementData 1 rm_J2_elementData_120 := ⟨by decide +kernel, rfl, rfl⟩
set_option maxHeartbeats 4000000 in
theorem met_J2_elementData_120 (l : Launch) (D : va_G) (ac : Nat → ClassId) (ad : Nat → Nat) (S : XS) (hLay : LayOk ad (knX S)) (v1 : Int32) (μ : WS) (Q : Nat → WS → Prop) (h : w_J2_elementData_120 S v1 μ Q) : CMet l yJ2_elementData cJ2_elementData 2 (some (.object "java/lang/Object")) rm_J2_elementData_120 D ac ad (knX S) (ExX D ac ad S) [.ref (ad 120), .int v1] μ (qR ad Q) := by
  refine vv_met (lv := [(0, .ref (ad 120)), (1, .int v1)]) (by decide) hLay exX_ok (Nat.le_of_ble_eq_true rfl) rfl ⟨rfl, rfl⟩ (fun C hC hK hRm hLl hR hM => ?_)
  subst hLl
  have hRo : RoomOk (HPW D ac ad (knX S) (ExX D ac ad S) (vS C)) (vR C) := HPW.room
  unfold w_J2_elementData_120 at h
  refine vv_aload_n hC dJ2_elementData_0 rfl 0 rfl ?_
  refine vv_getf hC hR hK fxJ2_9_J2 120 (lx_120 S) rfl dJ2_elementData_1 ?_
  refine vv_iload_n hC dJ2_elementData_4 rfl 1 rfl ?_
  obtain ⟨hin3, h⟩ := h
  obtain ⟨b1, hb4, h⟩ := h
  refine vv_aald hC hR hK 135 (t := 4) rfl (by decide) rfl (lx_135 S) hin3 hb4 dJ2_elementData_5 ?_
  exact vv_aret hC hM dJ2_elementData_6 h
def w_J2_get_133 (S : XS) (v1 : Int32) (μ : WS) (Q : Nat → WS → Prop) : Prop := (w_J14_checkIndex S v1 (μ.1 133 2) μ (fun r2 μ1 => (w_J2_elementData_133 S v1 μ1 (fun r4 μ3 => Q r4 μ3))))
abbrev rm_J2_get_133 : Room := { frames := 2, cells := 0, slots := 0, locals := 43 }
theorem mf_J2_get_133 : MFact yJ2_get 1 rm_J2_get_133 := ⟨by decide +kernel, rfl, rfl⟩
set_option maxHeartbeats 4000000 in
theorem met_J2_get_133 (l : Launch) (D : va_G) (ac : Nat → ClassId) (ad : Nat → Nat) (S : XS) (hLay : LayOk ad (knX S)) (v1 : Int32) (μ : WS) (Q : Nat → WS → Prop) (h : w_J2_get_133 S v1 μ Q) : CMet l yJ2_get cJ2_get 2 (some (.object "java/lang/Object")) rm_J2_get_133 D ac ad (knX S) (ExX D ac ad S) [.ref (ad 133), .int v1] μ (qR ad Q) := by
  refine vv_met (lv := [(0, .ref (ad 133)), (1, .int v1)]) (by decide) hLay exX_ok (Nat.le_of_ble_eq_true rfl) rfl ⟨rfl, rfl⟩ (fun C hC hK hRm hLl hR hM => ?_)
  subst hLl
  have hRo : RoomOk (HPW D ac ad (knX S) (ExX D ac ad S) (vS C)) (vR C) := HPW.room
  unfold w_J2_get_133 at h
  refine vv_iload_n hC dJ2_get_0 rfl 1 rfl ?_
  refine vv_aload_n hC dJ2_get_1 rfl 0 rfl ?_
  refine vv_getf hC hR hK fxJ2_48_J2 133 (lx_133 S) rfl dJ2_get_2 ?_
  refine vv_callSi hC hR hK hRo hRm [.int v1, .int (μ.1 133 2)] [] (met_J14_checkIndex (vL C) D ac ad S hLay v1 (μ.1 133 2) μ _ h) gxJ2_118 mf_J14_checkIndex rfl rfl rfl dJ2_get_5 (fun r2 μ1 h => ?_)
  refine vv_pop hC dJ2_get_8 rfl ?_
  refine vv_aload_n hC dJ2_get_9 rfl 0 rfl ?_
  refine vv_iload_n hC dJ2_get_10 rfl 1 rfl ?_
  refine vv_callVr hC hR hK hRo hRm [.int v1] [] (met_J2_elementData_133 (vL C) D ac ad S hLay v1 μ1 _ h) gxJ2_123 mf_J2_elementData_133 rfl (lx_133 S) rfl rfl rfl rfl dJ2_get_11 (fun r4 μ3 h => ?_)
  exact vv_aret hC hM dJ2_get_14 h
def w_J2_get_120 (S : XS) (v1 : Int32) (μ : WS) (Q : Nat → WS → Prop) : Prop := (w_J14_checkIndex S v1 (μ.1 120 2) μ (fun r2 μ1 => (w_J2_elementData_120 S v1 μ1 (fun r4 μ3 => Q r4 μ3))))
abbrev rm_J2_get_120 : Room := { frames := 2, cells := 0, slots := 0, locals := 43 }
theorem mf_J2_get_120 : MFact yJ2_get 1 rm_J2_get_120 := ⟨by decide +kernel, rfl, rfl⟩
set_option maxHeartbeats 4000000 in
theorem met_J2_get_120 (l : Launch) (D : va_G) (ac : Nat → ClassId) (ad : Nat → Nat) (S : XS) (hLay : LayOk ad (knX S)) (v1 : Int32) (μ : WS) (Q : Nat → WS → Prop) (h : w_J2_get_120 S v1 μ Q) : CMet l yJ2_get cJ2_get 2 (some (.object "java/lang/Object")) rm_J2_get_120 D ac ad (knX S) (ExX D ac ad S) [.ref (ad 120), .int v1] μ (qR ad Q) := by
  refine vv_met (lv := [(0, .ref (ad 120)), (1, .int v1)]) (by decide) hLay exX_ok (Nat.le_of_ble_eq_true rfl) rfl ⟨rfl, rfl⟩ (fun C hC hK hRm hLl hR hM => ?_)
  subst hLl
  have hRo : RoomOk (HPW D ac ad (knX S) (ExX D ac ad S) (vS C)) (vR C) := HPW.room
  unfold w_J2_get_120 at h
  refine vv_iload_n hC dJ2_get_0 rfl 1 rfl ?_
  refine vv_aload_n hC dJ2_get_1 rfl 0 rfl ?_
  refine vv_getf hC hR hK fxJ2_48_J2 120 (lx_120 S) rfl dJ2_get_2 ?_
  refine vv_callSi hC hR hK hRo hRm [.int v1, .int (μ.1 120 2)] [] (met_J14_checkIndex (vL C) D ac ad S hLay v1 (μ.1 120 2) μ _ h) gxJ2_118 mf_J14_checkIndex rfl rfl rfl dJ2_get_5 (fun r2 μ1 h => ?_)
  refine vv_pop hC dJ2_get_8 rfl ?_
  refine vv_aload_n hC dJ2_get_9 rfl 0 rfl ?_
  refine vv_iload_n hC dJ2_get_10 rfl 1 rfl ?_
  refine vv_callVr hC hR hK hRo hRm [.int v1] [] (met_J2_elementData_120 (vL C) D ac ad S hLay v1 μ1 _ h) gxJ2_123 mf_J2_elementData_120 rfl (lx_120 S) rfl rfl rfl rfl dJ2_get_11 (fun r4 μ3 h => ?_)
  exact vv_aret hC hM dJ2_get_14 h
def w_X1_turn_4b (S : XS) (P4 : Int32 → Int32 → Int32 → WS → Prop) (v1 : Int32) (v2 : Int32) (v3 : Int32) (μ : WS) (Q : Int32 → WS → Prop) : Prop := ((μ.1 104 2 ≤ v3) → Q v2 μ) ∧ ((¬ μ.1 104 2 ≤ v3) → (∀ x2 : Int32, x2 = v2 ||| (((v1 >>> (v3 &&& 31)) &&& 1) <<< ((((μ.1 104 2) - 1) - v3) &&& 31)) → P4 v1 x2 (v3 + 1) μ))
def w_X1_turn_4 (S : XS) (v1 : Int32) (v2 : Int32) (v3 : Int32) (μ : WS) (Q : Int32 → WS → Prop) : Prop := ∀ P4 : Int32 → Int32 → Int32 → WS → Prop, (∀ (v1 : Int32) (v2 : Int32) (v3 : Int32) (μ : WS), w_X1_turn_4b S  P4 v1 v2 v3 μ Q → P4 v1 v2 v3 μ) → P4 v1 v2 v3 μ
def w_X1_turn (S : XS) (v1 : Int32) (μ : WS) (Q : Int32 → WS → Prop) : Prop := w_X1_turn_4 S v1 0 0 μ Q
abbrev rm_X1_turn : Room := { frames := 0, cells := 0, slots := 0, locals := 0 }
theorem mf_X1_turn : MFact yX1_turn 1 rm_X1_turn := ⟨by decide +kernel, rfl, rfl⟩
set_option maxHeartbeats 4000000 in
theorem met_X1_turn (l : Launch) (D : va_G) (ac : Nat → ClassId) (ad : Nat → Nat) (S : XS) (hLay : LayOk ad (knX S)) (v1 : Int32) (μ : WS) (Q : Int32 → WS → Prop) (h : w_X1_turn S v1 μ Q) : CMet l yX1_turn cX1_turn 4 (some .int) rm_X1_turn D ac ad (knX S) (ExX D ac ad S) [.ref (ad 104), .int v1] μ (qI Q) := by
  refine vv_met (lv := [(0, .ref (ad 104)), (1, .int v1)]) (by decide) hLay exX_ok (Nat.le_of_ble_eq_true rfl) rfl ⟨rfl, rfl⟩ (fun C hC hK hRm hLl hR hM => ?_)
  subst hLl
  have hRo : RoomOk (HPW D ac ad (knX S) (ExX D ac ad S) (vS C)) (vR C) := HPW.room
  have L4 : ∀ (v1 : Int32) (v2 : Int32) (v3 : Int32) (μ : WS), w_X1_turn_4 S  v1 v2 v3 μ Q → VV C 4 (HPW D ac ad (knX S) (ExX D ac ad S) (vS C)) (vQ C (QcW D ac ad (knX S) (qI Q)) 0 0 (inLay ad (knX S))) (μ, ()) 4 [(0, .ref (ad 104)), (1, .int v1), (2, .int v2), (3, .int v3)] [] := by
    intro  v1 v2 v3 μ h
    refine h (fun v1 v2 v3 μ => VV C 4 (HPW D ac ad (knX S) (ExX D ac ad S) (vS C)) (vQ C (QcW D ac ad (knX S) (qI Q)) 0 0 (inLay ad (knX S))) (μ, ()) 4 [(0, .ref (ad 104)), (1, .int v1), (2, .int v2), (3, .int v3)] []) ?_
    clear h; intro v1 v2 v3 μ h
    have h4 : ∀ (v1 : Int32) (v2 : Int32) (v3 : Int32) (μ : WS), (fun v1 v2 v3 (μ : WS) => VV C 4 (HPW D ac ad (knX S) (ExX D ac ad S) (vS C)) (vQ C (QcW D ac ad (knX S) (qI Q)) 0 0 (inLay ad (knX S))) (μ, ()) 4 [(0, .ref (ad 104)), (1, .int v1), (2, .int v2), (3, .int v3)] []) v1 v2 v3 μ → VV C 4 (HPW D ac ad (knX S) (ExX D ac ad S) (vS C)) (vQ C (QcW D ac ad (knX S) (qI Q)) 0 0 (inLay ad (knX S))) (μ, ()) 4 [(0, .ref (ad 104)), (1, .int v1), (2, .int v2), (3, .int v3)] [] := fun _ _ _ _ h => h
    unfold w_X1_turn_4b at h
    refine vv_iload_n hC dX1_turn_4 rfl 3 rfl ?_
    refine vv_aload_n hC dX1_turn_5 rfl 0 rfl ?_
    refine vv_getf hC hR hK fxX1_27_X1 104 (lx_104 S) rfl dX1_turn_6 ?_
    refine vv_icmp_ge (tgt := 35) hC dX1_turn_9 rfl (fun c1 => ?_) (fun c1 => ?_)
    · replace h := h.1 c1
      refine vv_iload_n hC dX1_turn_35 rfl 2 rfl ?_
      exact vv_iret hC hM dX1_turn_36 h
    · replace h := h.2 c1
      refine vv_iload_n hC dX1_turn_12 rfl 2 rfl ?_
      refine vv_iload_n hC dX1_turn_13 rfl 1 rfl ?_
      refine vv_iload_n hC dX1_turn_14 rfl 3 rfl ?_
      refine vv_ishr hC dX1_turn_15 ?_
      refine vv_iconst hC dX1_turn_16 xic_1 ?_
      refine vv_iand hC dX1_turn_17 ?_
      refine vv_aload_n hC dX1_turn_18 rfl 0 rfl ?_
      refine vv_getf hC hR hK fxX1_27_X1 104 (lx_104 S) rfl dX1_turn_19 ?_
      refine vv_iconst hC dX1_turn_22 xic_1 ?_
      refine vv_isub hC dX1_turn_23 ?_
      refine vv_iload_n hC dX1_turn_24 rfl 3 rfl ?_
      refine vv_isub hC dX1_turn_25 ?_
      refine vv_ishl hC dX1_turn_26 ?_
      refine vv_ior hC dX1_turn_27 ?_
      refine vv_topi (fun x2 ex2 => ?_)
      replace h := h x2 ex2
      refine vv_istore_n (lv' := [(2, .int x2), (0, .ref (ad 104)), (1, .int v1), (3, .int v3)]) hC dX1_turn_28 rfl (by decide) rfl ?_
      refine vv_iinc (pl := 3) (v := v3 + 1) (lv' := [(3, .int (v3 + 1)), (2, .int x2), (0, .ref (ad 104)), (1, .int v1)]) hC dX1_turn_29 rfl rfl (by decide) rfl ?_
      refine vv_goto (tgt := 4) hC dX1_turn_32 rfl ?_
      refine vv_lv [2, 3, 1, 0] rfl ?_
      exact h4 _ _ _ _ h
  unfold w_X1_turn at h
  refine vv_iconst hC dX1_turn_0 xic_0 ?_
  refine vv_istore_n (lv' := [(2, .int 0), (0, .ref (ad 104)), (1, .int v1)]) hC dX1_turn_1 rfl (by decide) rfl ?_
  refine vv_iconst hC dX1_turn_2 xic_0 ?_
  refine vv_istore_n (lv' := [(3, .int 0), (2, .int 0), (0, .ref (ad 104)), (1, .int v1)]) hC dX1_turn_3 rfl (by decide) rfl ?_
  refine vv_lv [2, 3, 1, 0] rfl ?_
  exact L4  _ _ _ _ h
def w_X3_castsFrom_9b (S : XS) (P9 : Int32 → Int32 → WS → Prop) (v2 : Int32) (v3 : Int32) (μ : WS) (Q : Int32 → WS → Prop) : Prop := ((v3 < 0) → Q v2 μ) ∧ ((¬ v3 < 0) → (vp_in v3 24 ∧ (∀ x3 : Int32, x3 = μ.1 1002 v3.toNatClampNeg → P9 (v2 + 1) x3 μ)))
def w_X3_castsFrom_9 (S : XS) (v2 : Int32) (v3 : Int32) (μ : WS) (Q : Int32 → WS → Prop) : Prop := ∀ P9 : Int32 → Int32 → WS → Prop, (∀ (v2 : Int32) (v3 : Int32) (μ : WS), w_X3_castsFrom_9b S  P9 v2 v3 μ Q → P9 v2 v3 μ) → P9 v2 v3 μ
def w_X3_castsFrom (S : XS) (v1 : Int32) (μ : WS) (Q : Int32 → WS → Prop) : Prop := (vp_in v1 24 ∧ (∀ x1 : Int32, x1 = μ.1 1002 v1.toNatClampNeg → w_X3_castsFrom_9 S 0 x1 μ Q))
abbrev rm_X3_castsFrom : Room := { frames := 0, cells := 0, slots := 0, locals := 0 }
theorem mf_X3_castsFrom : MFact yX3_castsFrom 1 rm_X3_castsFrom := ⟨by decide +kernel, rfl, rfl⟩
set_option maxHeartbeats 4000000 in
theorem met_X3_castsFrom (l : Launch) (D : va_G) (ac : Nat → ClassId) (ad : Nat → Nat) (S : XS) (hLay : LayOk ad (knX S)) (v1 : Int32) (μ : WS) (Q : Int32 → WS → Prop) (h : w_X3_castsFrom S v1 μ Q) : CMet l yX3_castsFrom cX3_castsFrom 4 (some .int) rm_X3_castsFrom D ac ad (knX S) (ExX D ac ad S) [.ref (ad 1000), .int v1] μ (qI Q) := by
  refine vv_met (lv := [(0, .ref (ad 1000)), (1, .int v1)]) (by decide) hLay exX_ok (Nat.le_of_ble_eq_true rfl) rfl ⟨rfl, rfl⟩ (fun C hC hK hRm hLl hR hM => ?_)
  subst hLl
  have hRo : RoomOk (HPW D ac ad (knX S) (ExX D ac ad S) (vS C)) (vR C) := HPW.room
  have L9 : ∀ (v2 : Int32) (v3 : Int32) (μ : WS), w_X3_castsFrom_9 S  v2 v3 μ Q → VV C 4 (HPW D ac ad (knX S) (ExX D ac ad S) (vS C)) (vQ C (QcW D ac ad (knX S) (qI Q)) 0 0 (inLay ad (knX S))) (μ, ()) 9 [(0, .ref (ad 1000)), (2, .int v2), (3, .int v3)] [] := by
    intro  v2 v3 μ h
    refine h (fun v2 v3 μ => VV C 4 (HPW D ac ad (knX S) (ExX D ac ad S) (vS C)) (vQ C (QcW D ac ad (knX S) (qI Q)) 0 0 (inLay ad (knX S))) (μ, ()) 9 [(0, .ref (ad 1000)), (2, .int v2), (3, .int v3)] []) ?_
    clear h; intro v2 v3 μ h
    have h9 : ∀ (v2 : Int32) (v3 : Int32) (μ : WS), (fun v2 v3 (μ : WS) => VV C 4 (HPW D ac ad (knX S) (ExX D ac ad S) (vS C)) (vQ C (QcW D ac ad (knX S) (qI Q)) 0 0 (inLay ad (knX S))) (μ, ()) 9 [(0, .ref (ad 1000)), (2, .int v2), (3, .int v3)] []) v2 v3 μ → VV C 4 (HPW D ac ad (knX S) (ExX D ac ad S) (vS C)) (vQ C (QcW D ac ad (knX S) (qI Q)) 0 0 (inLay ad (knX S))) (μ, ()) 9 [(0, .ref (ad 1000)), (2, .int v2), (3, .int v3)] [] := fun _ _ _ h => h
    unfold w_X3_castsFrom_9b at h
    refine vv_iload_n hC dX3_castsFrom_9 rfl 2 rfl ?_
    refine vv_if_lt (tgt := 26) hC dX3_castsFrom_10 rfl (fun c2 => ?_) (fun c2 => ?_)
    · replace h := h.1 c2
      refine vv_iload_n hC dX3_castsFrom_26 rfl 1 rfl ?_
      exact vv_iret hC hM dX3_castsFrom_27 h
    · replace h := h.2 c2
      refine vv_iinc (pl := 1) (v := v2 + 1) (lv' := [(2, .int (v2 + 1)), (0, .ref (ad 1000)), (3, .int v3)]) hC dX3_castsFrom_13 rfl rfl (by decide) rfl ?_
      refine vv_aload_n hC dX3_castsFrom_16 rfl 1 rfl ?_
      refine vv_getf hC hR hK fxX3_15_X3 1000 (lx_1000 S) rfl dX3_castsFrom_17 ?_
      refine vv_iload_n hC dX3_castsFrom_20 rfl 2 rfl ?_
      obtain ⟨hin6, h⟩ := h
      refine vv_iald hC hR hK 1002 (lx_1002 S) hin6 dX3_castsFrom_21 ?_
      refine vv_topi (fun x3 ex3 => ?_)
      replace h := h x3 ex3
      refine vv_istore_n (lv' := [(3, .int x3), (2, .int (v2 + 1)), (0, .ref (ad 1000))]) hC dX3_castsFrom_22 rfl (by decide) rfl ?_
      refine vv_goto (tgt := 9) hC dX3_castsFrom_23 rfl ?_
      refine vv_lv [2, 1, 0] rfl ?_
      exact h9 _ _ _ h
  unfold w_X3_castsFrom at h
  refine vv_iconst hC dX3_castsFrom_0 xic_0 ?_
  refine vv_istore_n (lv' := [(2, .int 0), (0, .ref (ad 1000)), (1, .int v1)]) hC dX3_castsFrom_1 rfl (by decide) rfl ?_
  refine vv_aload_n hC dX3_castsFrom_2 rfl 1 rfl ?_
  refine vv_getf hC hR hK fxX3_15_X3 1000 (lx_1000 S) rfl dX3_castsFrom_3 ?_
  refine vv_iload_n hC dX3_castsFrom_6 rfl 2 rfl ?_
  obtain ⟨hin5, h⟩ := h
  refine vv_iald hC hR hK 1002 (lx_1002 S) hin5 dX3_castsFrom_7 ?_
  refine vv_topi (fun x1 ex1 => ?_)
  replace h := h x1 ex1
  refine vv_istore_n (lv' := [(3, .int x1), (2, .int 0), (0, .ref (ad 1000)), (1, .int v1)]) hC dX3_castsFrom_8 rfl (by decide) rfl ?_
  refine vv_lv [2, 1, 0] rfl ?_
  exact L9  _ _ _ h
def w_X3_copy (S : XS) (a0 : Nat) (a1 : Nat) (μ : WS) (Q : Nat → WS → Prop) : Prop := ((isChestR a1) ∧ ((isChestR a0) ∧ (∀ μ1 : WS, μ1 = wcpy μ (a1 + 1 + 0) (a0 + 1 + 0) 0 0 24 → ((isChestR a1) ∧ ((isChestR a0) ∧ (∀ μ2 : WS, μ2 = wcpy μ1 (a1 + 1 + 1) (a0 + 1 + 1) 0 0 24 → ((isChestR a1) ∧ ((isChestR a0) ∧ (∀ μ3 : WS, μ3 = wcpy μ2 (a1 + 1 + 2) (a0 + 1 + 2) 0 0 24 → ((isChestR a1) ∧ ((isChestR a0) ∧ (∀ μ4 : WS, μ4 = wcpy μ3 (a1 + 1 + 3) (a0 + 1 + 3) 0 0 24 → ((isChestR a1) ∧ ((isChestR a0) ∧ (∀ μ5 : WS, μ5 = wcpy μ4 (a1 + 1 + 4) (a0 + 1 + 4) 0 0 40 → ((isChestR a1) ∧ ((isChestR a0) ∧ (∀ μ6 : WS, μ6 = wcpy μ5 (a1 + 1 + 5) (a0 + 1 + 5) 0 0 40 → ((isChestR a1) ∧ ((isChestR a0) ∧ (∀ μ7 : WS, μ7 = wcpy μ6 (a1 + 1 + 6) (a0 + 1 + 6) 0 0 40 → ((isChestR a1) ∧ ((isChestR a0) ∧ (∀ μ8 : WS, μ8 = wset μ7 a0 7 (μ7.1 a1 7) → ((isChestR a1) ∧ ((isChestR a0) ∧ (∀ μ9 : WS, μ9 = wset μ8 a0 8 (μ8.1 a1 8) → ((isChestR a1) ∧ ((isChestR a0) ∧ (∀ μ10 : WS, μ10 = wset μ9 a0 9 (μ9.1 a1 9) → ((isChestR a1) ∧ ((isChestR a0) ∧ (∀ μ11 : WS, μ11 = wset μ10 a0 10 (μ10.1 a1 10) → ((isChestR a1) ∧ ((isChestR a0) ∧ (∀ μ12 : WS, μ12 = wset μ11 a0 11 (μ11.1 a1 11) → Q a0 μ12))))))))))))))))))))))))))))))))))))
abbrev rm_X3_copy : Room := { frames := 1, cells := 0, slots := 0, locals := 64 }
theorem mf_X3_copy : MFact yX3_copy 1 rm_X3_copy := ⟨by decide +kernel, rfl, rfl⟩
set_option maxHeartbeats 4000000 in
theorem met_X3_copy (l : Launch) (D : va_G) (ac : Nat → ClassId) (ad : Nat → Nat) (S : XS) (hLay : LayOk ad (knX S)) (a0 : Nat) (a1 : Nat) (μ : WS) (Q : Nat → WS → Prop) (h : w_X3_copy S a0 a1 μ Q) : CMet l yX3_copy cX3_copy 2 (some (.object "SealCasts$Chest")) rm_X3_copy D ac ad (knX S) (ExX D ac ad S) [.ref (ad a0), .ref (ad a1)] μ (qR ad Q) := by
  refine vv_met (lv := [(0, .ref (ad a0)), (1, .ref (ad a1))]) (by decide) hLay exX_ok (Nat.le_of_ble_eq_true rfl) rfl ⟨rfl, rfl⟩ (fun C hC hK hRm hLl hR hM => ?_)
  subst hLl
  have hRo : RoomOk (HPW D ac ad (knX S) (ExX D ac ad S) (vS C)) (vR C) := HPW.room
  unfold w_X3_copy at h
  refine vv_aload_n hC dX3_copy_0 rfl 1 rfl ?_
  obtain ⟨hk7, h⟩ := h
  refine vv_getf hC hR hK fxX3_9_X3 a1 (kx_chest hk7) (fvc hk7 _ _ _ 0 (by decide)) dX3_copy_1 ?_
  refine vv_iconst hC dX3_copy_4 xic_0 ?_
  refine vv_aload_n hC dX3_copy_5 rfl 0 rfl ?_
  obtain ⟨hk8, h⟩ := h
  refine vv_getf hC hR hK fxX3_9_X3 a0 (kx_chest hk8) (fvc hk8 _ _ _ 0 (by decide)) dX3_copy_6 ?_
  refine vv_iconst hC dX3_copy_9 xic_0 ?_
  refine vv_bipush hC dX3_copy_10 xbp_24 ?_
  refine vv_acpyi hC hR hK cwX3_56 (a1 + 1 + 0) (a0 + 1 + 0) (kx_chestA hk7 0 (by decide)) (kx_chestA hk8 0 (by decide)) (by decide) (by decide) (by decide) (by decide) (by decide) (by rw [hRm]; exact ⟨by decide, by decide +kernel⟩) dX3_copy_12 ?_
  refine vv_st (fun y e => ?_)
  obtain ⟨μ1, _⟩ := y
  have eμ1 := congrArg Prod.fst e
  clear e
  replace h := h μ1 eμ1
  refine vv_aload_n hC dX3_copy_15 rfl 1 rfl ?_
  obtain ⟨hk9, h⟩ := h
  refine vv_getf hC hR hK fxX3_15_X3 a1 (kx_chest hk9) (fvc hk9 _ _ _ 1 (by decide)) dX3_copy_16 ?_
  refine vv_iconst hC dX3_copy_19 xic_0 ?_
  refine vv_aload_n hC dX3_copy_20 rfl 0 rfl ?_
  obtain ⟨hk10, h⟩ := h
  refine vv_getf hC hR hK fxX3_15_X3 a0 (kx_chest hk10) (fvc hk10 _ _ _ 1 (by decide)) dX3_copy_21 ?_
  refine vv_iconst hC dX3_copy_24 xic_0 ?_
  refine vv_bipush hC dX3_copy_25 xbp_24 ?_
  refine vv_acpyi hC hR hK cwX3_56 (a1 + 1 + 1) (a0 + 1 + 1) (kx_chestA hk9 1 (by decide)) (kx_chestA hk10 1 (by decide)) (by decide) (by decide) (by decide) (by decide) (by decide) (by rw [hRm]; exact ⟨by decide, by decide +kernel⟩) dX3_copy_27 ?_
  refine vv_st (fun y e => ?_)
  obtain ⟨μ2, _⟩ := y
  have eμ2 := congrArg Prod.fst e
  clear e
  replace h := h μ2 eμ2
  refine vv_aload_n hC dX3_copy_30 rfl 1 rfl ?_
  obtain ⟨hk11, h⟩ := h
  refine vv_getf hC hR hK fxX3_18_X3 a1 (kx_chest hk11) (fvc hk11 _ _ _ 2 (by decide)) dX3_copy_31 ?_
  refine vv_iconst hC dX3_copy_34 xic_0 ?_
  refine vv_aload_n hC dX3_copy_35 rfl 0 rfl ?_
  obtain ⟨hk12, h⟩ := h
  refine vv_getf hC hR hK fxX3_18_X3 a0 (kx_chest hk12) (fvc hk12 _ _ _ 2 (by decide)) dX3_copy_36 ?_
  refine vv_iconst hC dX3_copy_39 xic_0 ?_
  refine vv_bipush hC dX3_copy_40 xbp_24 ?_
  refine vv_acpyi hC hR hK cwX3_56 (a1 + 1 + 2) (a0 + 1 + 2) (kx_chestA hk11 2 (by decide)) (kx_chestA hk12 2 (by decide)) (by decide) (by decide) (by decide) (by decide) (by decide) (by rw [hRm]; exact ⟨by decide, by decide +kernel⟩) dX3_copy_42 ?_
  refine vv_st (fun y e => ?_)
  obtain ⟨μ3, _⟩ := y
  have eμ3 := congrArg Prod.fst e
  clear e
  replace h := h μ3 eμ3
  refine vv_aload_n hC dX3_copy_45 rfl 1 rfl ?_
  obtain ⟨hk13, h⟩ := h
  refine vv_getf hC hR hK fxX3_21_X3 a1 (kx_chest hk13) (fvc hk13 _ _ _ 3 (by decide)) dX3_copy_46 ?_
  refine vv_iconst hC dX3_copy_49 xic_0 ?_
  refine vv_aload_n hC dX3_copy_50 rfl 0 rfl ?_
  obtain ⟨hk14, h⟩ := h
  refine vv_getf hC hR hK fxX3_21_X3 a0 (kx_chest hk14) (fvc hk14 _ _ _ 3 (by decide)) dX3_copy_51 ?_
  refine vv_iconst hC dX3_copy_54 xic_0 ?_
  refine vv_bipush hC dX3_copy_55 xbp_24 ?_
  refine vv_acpyi hC hR hK cwX3_56 (a1 + 1 + 3) (a0 + 1 + 3) (kx_chestA hk13 3 (by decide)) (kx_chestA hk14 3 (by decide)) (by decide) (by decide) (by decide) (by decide) (by decide) (by rw [hRm]; exact ⟨by decide, by decide +kernel⟩) dX3_copy_57 ?_
  refine vv_st (fun y e => ?_)
  obtain ⟨μ4, _⟩ := y
  have eμ4 := congrArg Prod.fst e
  clear e
  replace h := h μ4 eμ4
  refine vv_aload_n hC dX3_copy_60 rfl 1 rfl ?_
  obtain ⟨hk15, h⟩ := h
  refine vv_getf hC hR hK fxX3_24_X3 a1 (kx_chest hk15) (fvc hk15 _ _ _ 4 (by decide)) dX3_copy_61 ?_
  refine vv_iconst hC dX3_copy_64 xic_0 ?_
  refine vv_aload_n hC dX3_copy_65 rfl 0 rfl ?_
  obtain ⟨hk16, h⟩ := h
  refine vv_getf hC hR hK fxX3_24_X3 a0 (kx_chest hk16) (fvc hk16 _ _ _ 4 (by decide)) dX3_copy_66 ?_
  refine vv_iconst hC dX3_copy_69 xic_0 ?_
  refine vv_bipush hC dX3_copy_70 xbp_40 ?_
  refine vv_acpyi hC hR hK cwX3_56 (a1 + 1 + 4) (a0 + 1 + 4) (kx_chestA hk15 4 (by decide)) (kx_chestA hk16 4 (by decide)) (by decide) (by decide) (by decide) (by decide) (by decide) (by rw [hRm]; exact ⟨by decide, by decide +kernel⟩) dX3_copy_72 ?_
  refine vv_st (fun y e => ?_)
  obtain ⟨μ5, _⟩ := y
  have eμ5 := congrArg Prod.fst e
  clear e
  replace h := h μ5 eμ5
  refine vv_aload_n hC dX3_copy_75 rfl 1 rfl ?_
  obtain ⟨hk17, h⟩ := h
  refine vv_getf hC hR hK fxX3_27_X3 a1 (kx_chest hk17) (fvc hk17 _ _ _ 5 (by decide)) dX3_copy_76 ?_
  refine vv_iconst hC dX3_copy_79 xic_0 ?_
  refine vv_aload_n hC dX3_copy_80 rfl 0 rfl ?_
  obtain ⟨hk18, h⟩ := h
  refine vv_getf hC hR hK fxX3_27_X3 a0 (kx_chest hk18) (fvc hk18 _ _ _ 5 (by decide)) dX3_copy_81 ?_
  refine vv_iconst hC dX3_copy_84 xic_0 ?_
  refine vv_bipush hC dX3_copy_85 xbp_40 ?_
  refine vv_acpyi hC hR hK cwX3_56 (a1 + 1 + 5) (a0 + 1 + 5) (kx_chestA hk17 5 (by decide)) (kx_chestA hk18 5 (by decide)) (by decide) (by decide) (by decide) (by decide) (by decide) (by rw [hRm]; exact ⟨by decide, by decide +kernel⟩) dX3_copy_87 ?_
  refine vv_st (fun y e => ?_)
  obtain ⟨μ6, _⟩ := y
  have eμ6 := congrArg Prod.fst e
  clear e
  replace h := h μ6 eμ6
  refine vv_aload_n hC dX3_copy_90 rfl 1 rfl ?_
  obtain ⟨hk19, h⟩ := h
  refine vv_getf hC hR hK fxX3_30_X3 a1 (kx_chest hk19) (fvc hk19 _ _ _ 6 (by decide)) dX3_copy_91 ?_
  refine vv_iconst hC dX3_copy_94 xic_0 ?_
  refine vv_aload_n hC dX3_copy_95 rfl 0 rfl ?_
  obtain ⟨hk20, h⟩ := h
  refine vv_getf hC hR hK fxX3_30_X3 a0 (kx_chest hk20) (fvc hk20 _ _ _ 6 (by decide)) dX3_copy_96 ?_
  refine vv_iconst hC dX3_copy_99 xic_0 ?_
  refine vv_bipush hC dX3_copy_100 xbp_40 ?_
  refine vv_acpyi hC hR hK cwX3_56 (a1 + 1 + 6) (a0 + 1 + 6) (kx_chestA hk19 6 (by decide)) (kx_chestA hk20 6 (by decide)) (by decide) (by decide) (by decide) (by decide) (by decide) (by rw [hRm]; exact ⟨by decide, by decide +kernel⟩) dX3_copy_102 ?_
  refine vv_st (fun y e => ?_)
  obtain ⟨μ7, _⟩ := y
  have eμ7 := congrArg Prod.fst e
  clear e
  replace h := h μ7 eμ7
  refine vv_aload_n hC dX3_copy_105 rfl 0 rfl ?_
  refine vv_aload_n hC dX3_copy_106 rfl 1 rfl ?_
  obtain ⟨hk21, h⟩ := h
  refine vv_getf hC hR hK fxX3_39_X3 a1 (kx_chest hk21) (fvi hk21 _ _ _ 7 (by decide)) dX3_copy_107 ?_
  obtain ⟨hk22, h⟩ := h
  refine vv_puti hC hR hK fxX3_39_X3 a0 (kx_chest hk22) (fti hk22 7 (by decide)) rfl rfl dX3_copy_110 ?_
  refine vv_st (fun y e => ?_)
  obtain ⟨μ8, _⟩ := y
  have eμ8 := congrArg Prod.fst e
  clear e
  replace h := h μ8 eμ8
  refine vv_aload_n hC dX3_copy_113 rfl 0 rfl ?_
  refine vv_aload_n hC dX3_copy_114 rfl 1 rfl ?_
  obtain ⟨hk23, h⟩ := h
  refine vv_getf hC hR hK fxX3_42_X3 a1 (kx_chest hk23) (fvi hk23 _ _ _ 8 (by decide)) dX3_copy_115 ?_
  obtain ⟨hk24, h⟩ := h
  refine vv_puti hC hR hK fxX3_42_X3 a0 (kx_chest hk24) (fti hk24 8 (by decide)) rfl rfl dX3_copy_118 ?_
  refine vv_st (fun y e => ?_)
  obtain ⟨μ9, _⟩ := y
  have eμ9 := congrArg Prod.fst e
  clear e
  replace h := h μ9 eμ9
  refine vv_aload_n hC dX3_copy_121 rfl 0 rfl ?_
  refine vv_aload_n hC dX3_copy_122 rfl 1 rfl ?_
  obtain ⟨hk25, h⟩ := h
  refine vv_getf hC hR hK fxX3_48_X3 a1 (kx_chest hk25) (fvi hk25 _ _ _ 9 (by decide)) dX3_copy_123 ?_
  obtain ⟨hk26, h⟩ := h
  refine vv_puti hC hR hK fxX3_48_X3 a0 (kx_chest hk26) (fti hk26 9 (by decide)) rfl rfl dX3_copy_126 ?_
  refine vv_st (fun y e => ?_)
  obtain ⟨μ10, _⟩ := y
  have eμ10 := congrArg Prod.fst e
  clear e
  replace h := h μ10 eμ10
  refine vv_aload_n hC dX3_copy_129 rfl 0 rfl ?_
  refine vv_aload_n hC dX3_copy_130 rfl 1 rfl ?_
  obtain ⟨hk27, h⟩ := h
  refine vv_getf hC hR hK fxX3_49_X3 a1 (kx_chest hk27) (fvi hk27 _ _ _ 10 (by decide)) dX3_copy_131 ?_
  obtain ⟨hk28, h⟩ := h
  refine vv_puti hC hR hK fxX3_49_X3 a0 (kx_chest hk28) (fti hk28 10 (by decide)) rfl rfl dX3_copy_134 ?_
  refine vv_st (fun y e => ?_)
  obtain ⟨μ11, _⟩ := y
  have eμ11 := congrArg Prod.fst e
  clear e
  replace h := h μ11 eμ11
  refine vv_aload_n hC dX3_copy_137 rfl 0 rfl ?_
  refine vv_aload_n hC dX3_copy_138 rfl 1 rfl ?_
  obtain ⟨hk29, h⟩ := h
  refine vv_getf hC hR hK fxX3_55_X3 a1 (kx_chest hk29) (fvi hk29 _ _ _ 11 (by decide)) dX3_copy_139 ?_
  obtain ⟨hk30, h⟩ := h
  refine vv_puti hC hR hK fxX3_55_X3 a0 (kx_chest hk30) (fti hk30 11 (by decide)) rfl rfl dX3_copy_142 ?_
  refine vv_st (fun y e => ?_)
  obtain ⟨μ12, _⟩ := y
  have eμ12 := congrArg Prod.fst e
  clear e
  replace h := h μ12 eμ12
  refine vv_aload_n hC dX3_copy_145 rfl 0 rfl ?_
  exact vv_aret hC hM dX3_copy_146 h
def w_X3_begin (S : XS) (μ : WS) (Q : Nat → WS → Prop) : Prop := (∀ μ1 : WS, μ1 = wset μ 1001 0 (μ.1 104 3) → (∀ μ2 : WS, μ2 = wset μ1 1002 0 (-1) → (∀ μ3 : WS, μ3 = wset μ2 1003 0 (-1) → (∀ μ4 : WS, μ4 = wset μ3 1004 0 0 → (∀ μ5 : WS, μ5 = wset μ4 1000 7 1 → (∀ μ6 : WS, μ6 = wset μ5 1000 8 0 → (∀ μ7 : WS, μ7 = wset μ6 1000 9 (μ6.1 104 4) → (∀ μ8 : WS, μ8 = wset μ7 1000 10 0 → (∀ μ9 : WS, μ9 = wset μ8 1000 11 (μ8.1 104 5) → Q 1000 μ9)))))))))
abbrev rm_X3_begin : Room := { frames := 0, cells := 0, slots := 0, locals := 0 }
theorem mf_X3_begin : MFact yX3_begin 1 rm_X3_begin := ⟨by decide +kernel, rfl, rfl⟩
set_option maxHeartbeats 4000000 in
theorem met_X3_begin (l : Launch) (D : va_G) (ac : Nat → ClassId) (ad : Nat → Nat) (S : XS) (hLay : LayOk ad (knX S)) (μ : WS) (Q : Nat → WS → Prop) (h : w_X3_begin S  μ Q) : CMet l yX3_begin cX3_begin 2 (some (.object "SealCasts$Chest")) rm_X3_begin D ac ad (knX S) (ExX D ac ad S) [.ref (ad 1000), .ref (ad 104)] μ (qR ad Q) := by
  refine vv_met (lv := [(0, .ref (ad 1000)), (1, .ref (ad 104))]) (by decide) hLay exX_ok (Nat.le_of_ble_eq_true rfl) rfl ⟨rfl, rfl⟩ (fun C hC hK hRm hLl hR hM => ?_)
  subst hLl
  have hRo : RoomOk (HPW D ac ad (knX S) (ExX D ac ad S) (vS C)) (vR C) := HPW.room
  unfold w_X3_begin at h
  refine vv_aload_n hC dX3_begin_0 rfl 0 rfl ?_
  refine vv_getf hC hR hK fxX3_9_X3 1000 (lx_1000 S) rfl dX3_begin_1 ?_
  refine vv_iconst hC dX3_begin_4 xic_0 ?_
  refine vv_aload_n hC dX3_begin_5 rfl 1 rfl ?_
  refine vv_getf hC hR hK fxX3_33_X1 104 (lx_104 S) rfl dX3_begin_6 ?_
  refine vv_iast hC hR hK 1001 (lx_1001 S) xvin_0_24 dX3_begin_9 ?_
  refine vv_st (fun y e => ?_)
  obtain ⟨μ1, _⟩ := y
  have eμ1 := congrArg Prod.fst e
  clear e
  replace h := h μ1 eμ1
  refine vv_aload_n hC dX3_begin_10 rfl 0 rfl ?_
  refine vv_getf hC hR hK fxX3_15_X3 1000 (lx_1000 S) rfl dX3_begin_11 ?_
  refine vv_iconst hC dX3_begin_14 xic_0 ?_
  refine vv_iconst hC dX3_begin_15 xic_m1 ?_
  refine vv_iast hC hR hK 1002 (lx_1002 S) xvin_0_24 dX3_begin_16 ?_
  refine vv_st (fun y e => ?_)
  obtain ⟨μ2, _⟩ := y
  have eμ2 := congrArg Prod.fst e
  clear e
  replace h := h μ2 eμ2
  refine vv_aload_n hC dX3_begin_17 rfl 0 rfl ?_
  refine vv_getf hC hR hK fxX3_18_X3 1000 (lx_1000 S) rfl dX3_begin_18 ?_
  refine vv_iconst hC dX3_begin_21 xic_0 ?_
  refine vv_iconst hC dX3_begin_22 xic_m1 ?_
  refine vv_iast hC hR hK 1003 (lx_1003 S) xvin_0_24 dX3_begin_23 ?_
  refine vv_st (fun y e => ?_)
  obtain ⟨μ3, _⟩ := y
  have eμ3 := congrArg Prod.fst e
  clear e
  replace h := h μ3 eμ3
  refine vv_aload_n hC dX3_begin_24 rfl 0 rfl ?_
  refine vv_getf hC hR hK fxX3_21_X3 1000 (lx_1000 S) rfl dX3_begin_25 ?_
  refine vv_iconst hC dX3_begin_28 xic_0 ?_
  refine vv_iconst hC dX3_begin_29 xic_0 ?_
  refine vv_iast hC hR hK 1004 (lx_1004 S) xvin_0_24 dX3_begin_30 ?_
  refine vv_st (fun y e => ?_)
  obtain ⟨μ4, _⟩ := y
  have eμ4 := congrArg Prod.fst e
  clear e
  replace h := h μ4 eμ4
  refine vv_aload_n hC dX3_begin_31 rfl 0 rfl ?_
  refine vv_iconst hC dX3_begin_32 xic_1 ?_
  refine vv_puti hC hR hK fxX3_39_X3 1000 (lx_1000 S) rfl rfl rfl dX3_begin_33 ?_
  refine vv_st (fun y e => ?_)
  obtain ⟨μ5, _⟩ := y
  have eμ5 := congrArg Prod.fst e
  clear e
  replace h := h μ5 eμ5
  refine vv_aload_n hC dX3_begin_36 rfl 0 rfl ?_
  refine vv_iconst hC dX3_begin_37 xic_0 ?_
  refine vv_puti hC hR hK fxX3_42_X3 1000 (lx_1000 S) rfl rfl rfl dX3_begin_38 ?_
  refine vv_st (fun y e => ?_)
  obtain ⟨μ6, _⟩ := y
  have eμ6 := congrArg Prod.fst e
  clear e
  replace h := h μ6 eμ6
  refine vv_aload_n hC dX3_begin_41 rfl 0 rfl ?_
  refine vv_aload_n hC dX3_begin_42 rfl 1 rfl ?_
  refine vv_getf hC hR hK fxX3_45_X1 104 (lx_104 S) rfl dX3_begin_43 ?_
  refine vv_puti hC hR hK fxX3_48_X3 1000 (lx_1000 S) rfl rfl rfl dX3_begin_46 ?_
  refine vv_st (fun y e => ?_)
  obtain ⟨μ7, _⟩ := y
  have eμ7 := congrArg Prod.fst e
  clear e
  replace h := h μ7 eμ7
  refine vv_aload_n hC dX3_begin_49 rfl 0 rfl ?_
  refine vv_iconst hC dX3_begin_50 xic_0 ?_
  refine vv_puti hC hR hK fxX3_49_X3 1000 (lx_1000 S) rfl rfl rfl dX3_begin_51 ?_
  refine vv_st (fun y e => ?_)
  obtain ⟨μ8, _⟩ := y
  have eμ8 := congrArg Prod.fst e
  clear e
  replace h := h μ8 eμ8
  refine vv_aload_n hC dX3_begin_54 rfl 0 rfl ?_
  refine vv_aload_n hC dX3_begin_55 rfl 1 rfl ?_
  refine vv_getf hC hR hK fxX3_52_X1 104 (lx_104 S) rfl dX3_begin_56 ?_
  refine vv_puti hC hR hK fxX3_55_X3 1000 (lx_1000 S) rfl rfl rfl dX3_begin_59 ?_
  refine vv_st (fun y e => ?_)
  obtain ⟨μ9, _⟩ := y
  have eμ9 := congrArg Prod.fst e
  clear e
  replace h := h μ9 eμ9
  refine vv_aload_n hC dX3_begin_62 rfl 0 rfl ?_
  exact vv_aret hC hM dX3_begin_63 h
def w_X1_cast_212 (S : XS) (P64 : Int32 → Int32 → Nat → Int32 → WS → Prop) (s0 : Int32) (s1 : Int32) (v6 : Int32) (b8 : Nat) (v9 : Int32) (μ : WS) (Q : Int32 → WS → Prop) : Prop := (∀ x21 : Int32, x21 = s1 ||| s0 → P64 v6 x21 b8 (v9 + 1) μ)
def w_X1_cast_195 (S : XS) (P64 : Int32 → Int32 → Nat → Int32 → WS → Prop) (s0 : Int32) (v6 : Int32) (v7 : Int32) (b8 : Nat) (v9 : Int32) (μ : WS) (Q : Int32 → WS → Prop) : Prop := ((s0 = 0) → w_X1_cast_212 S P64 0 v7 v6 b8 v9 μ Q) ∧ ((¬ s0 = 0) → w_X1_cast_212 S P64 (1 <<< (v9 &&& 31)) v7 v6 b8 v9 μ Q)
def w_X1_cast_118 (S : XS) (P64 : Int32 → Int32 → Nat → Int32 → WS → Prop) (s0 : Int32) (v6 : Int32) (v7 : Int32) (b8 : Nat) (v9 : Int32) (μ : WS) (Q : Int32 → WS → Prop) : Prop := (∀ μ15 : WS, μ15 = wset μ 132 2 s0 → (∀ μ16 : WS, μ16 = wset μ15 132 3 ((v6 >>> ((v9 + 1) &&& 31)) &&& 1) → ((¬ μ16.1 132 1 = 1) → ((isHandR S b8) ∧ ((isNodeR S (171 + 2 * (b8 - 140))) ∧ ((evV (μ16.1 132) (S.2.2.2.2.2 (171 + 2 * (b8 - 140))) = 0) → w_X1_cast_195 S P64 0 v6 v7 b8 v9 μ16 Q) ∧ ((¬ evV (μ16.1 132) (S.2.2.2.2.2 (171 + 2 * (b8 - 140))) = 0) → w_X1_cast_195 S P64 1 v6 v7 b8 v9 μ16 Q)))) ∧ ((μ16.1 132 1 = 1) → ((isHandR S b8) ∧ ((isNodeR S (170 + 2 * (b8 - 140))) ∧ ((¬ evV (μ16.1 132) (S.2.2.2.2.2 (170 + 2 * (b8 - 140))) = 0) → w_X1_cast_195 S P64 0 v6 v7 b8 v9 μ16 Q) ∧ ((evV (μ16.1 132) (S.2.2.2.2.2 (170 + 2 * (b8 - 140))) = 0) → w_X1_cast_195 S P64 1 v6 v7 b8 v9 μ16 Q))))))
def w_X1_cast_64b (S : XS) (P64 : Int32 → Int32 → Nat → Int32 → WS → Prop) (v6 : Int32) (v7 : Int32) (b8 : Nat) (v9 : Int32) (μ : WS) (Q : Int32 → WS → Prop) : Prop := ((μ.1 104 2 ≤ v9) → Q v7 μ) ∧ ((¬ μ.1 104 2 ≤ v9) → (∀ μ12 : WS, μ12 = wset μ 132 0 v9 → (∀ μ13 : WS, μ13 = wset μ12 132 1 ((v6 >>> (v9 &&& 31)) &&& 1) → ((¬ v9 = 0) → w_X1_cast_118 S P64 ((v6 >>> ((v9 - 1) &&& 31)) &&& 1) v6 v7 b8 v9 μ13 Q) ∧ ((v9 = 0) → w_X1_cast_118 S P64 0 v6 v7 b8 v9 μ13 Q))))
def w_X1_cast_64 (S : XS) (v6 : Int32) (v7 : Int32) (b8 : Nat) (v9 : Int32) (μ : WS) (Q : Int32 → WS → Prop) : Prop := ∀ P64 : Int32 → Int32 → Nat → Int32 → WS → Prop, (∀ (v6 : Int32) (v7 : Int32) (b8 : Nat) (v9 : Int32) (μ : WS), w_X1_cast_64b S  P64 v6 v7 b8 v9 μ Q → P64 v6 v7 b8 v9 μ) → P64 v6 v7 b8 v9 μ
def w_X1_cast (S : XS) (v1 : Int32) (v2 : Int32) (v3 : Int32) (v4 : Int32) (v5 : Int32) (μ : WS) (Q : Int32 → WS → Prop) : Prop := (w_X1_turn S v1 μ (fun r2 μ1 => (w_J2_get_133 S v2 μ1 (fun r4 μ3 => ((isHandR S r4) ∧ (w_J15_bitCount S r2 μ3 (fun r6 μ5 => (∀ μ7 : WS, μ7 = wset μ5 132 4 r6 → (∀ μ8 : WS, μ8 = wset μ7 132 5 v4 → (∀ μ9 : WS, μ9 = wset μ8 132 6 v3 → (∀ μ10 : WS, μ10 = wset μ9 132 7 v5 → w_X1_cast_64 S r2 0 r4 0 μ10 Q)))))))))))
abbrev rm_X1_cast : Room := { frames := 1701, cells := 0, slots := 0, locals := 51030 }
theorem mf_X1_cast : MFact yX1_cast 5 rm_X1_cast := ⟨by decide +kernel, rfl, rfl⟩
set_option maxHeartbeats 4000000 in
theorem met_X1_cast (l : Launch) (D : va_G) (ac : Nat → ClassId) (ad : Nat → Nat) (S : XS) (hLay : LayOk ad (knX S)) (v1 : Int32) (v2 : Int32) (v3 : Int32) (v4 : Int32) (v5 : Int32) (μ : WS) (Q : Int32 → WS → Prop) (h : w_X1_cast S v1 v2 v3 v4 v5 μ Q) : CMet l yX1_cast cX1_cast 11 (some .int) rm_X1_cast D ac ad (knX S) (ExX D ac ad S) [.ref (ad 104), .int v1, .int v2, .int v3, .int v4, .int v5] μ (qI Q) := by
  refine vv_met (lv := [(0, .ref (ad 104)), (1, .int v1), (2, .int v2), (3, .int v3), (4, .int v4), (5, .int v5)]) (by decide) hLay exX_ok (Nat.le_of_ble_eq_true rfl) rfl ⟨rfl, rfl⟩ (fun C hC hK hRm hLl hR hM => ?_)
  subst hLl
  have hRo : RoomOk (HPW D ac ad (knX S) (ExX D ac ad S) (vS C)) (vR C) := HPW.room
  have L212 : ∀ (P64 : Int32 → Int32 → Nat → Int32 → WS → Prop) (h64 : ∀ (v6 : Int32) (v7 : Int32) (b8 : Nat) (v9 : Int32) (μ : WS), P64 v6 v7 b8 v9 μ → VV C 11 (HPW D ac ad (knX S) (ExX D ac ad S) (vS C)) (vQ C (QcW D ac ad (knX S) (qI Q)) 0 0 (inLay ad (knX S))) (μ, ()) 64 [(0, .ref (ad 104)), (6, .int v6), (7, .int v7), (8, .ref (ad b8)), (9, .int v9)] []) (s0 : Int32) (s1 : Int32) (v6 : Int32) (b8 : Nat) (v9 : Int32) (μ : WS), w_X1_cast_212 S P64 s0 s1 v6 b8 v9 μ Q → VV C 11 (HPW D ac ad (knX S) (ExX D ac ad S) (vS C)) (vQ C (QcW D ac ad (knX S) (qI Q)) 0 0 (inLay ad (knX S))) (μ, ()) 212 [(0, .ref (ad 104)), (6, .int v6), (8, .ref (ad b8)), (9, .int v9)] [.int s0, .int s1] := by
    intro P64 h64 s0 s1 v6 b8 v9 μ h
    unfold w_X1_cast_212 at h
    refine vv_ior hC dX1_cast_212 ?_
    refine vv_topi (fun x21 ex21 => ?_)
    replace h := h x21 ex21
    refine vv_istore (lv' := [(7, .int x21), (0, .ref (ad 104)), (6, .int v6), (8, .ref (ad b8)), (9, .int v9)]) hC dX1_cast_213 (by decide) rfl ?_
    refine vv_iinc (pl := 4) (v := v9 + 1) (lv' := [(9, .int (v9 + 1)), (7, .int x21), (0, .ref (ad 104)), (6, .int v6), (8, .ref (ad b8))]) hC dX1_cast_215 rfl rfl (by decide) rfl ?_
    refine vv_goto (tgt := 64) hC dX1_cast_218 rfl ?_
    refine vv_lv [2, 3, 1, 4, 0] rfl ?_
    exact h64 _ _ _ _ _ h
  have L195 : ∀ (P64 : Int32 → Int32 → Nat → Int32 → WS → Prop) (h64 : ∀ (v6 : Int32) (v7 : Int32) (b8 : Nat) (v9 : Int32) (μ : WS), P64 v6 v7 b8 v9 μ → VV C 11 (HPW D ac ad (knX S) (ExX D ac ad S) (vS C)) (vQ C (QcW D ac ad (knX S) (qI Q)) 0 0 (inLay ad (knX S))) (μ, ()) 64 [(0, .ref (ad 104)), (6, .int v6), (7, .int v7), (8, .ref (ad b8)), (9, .int v9)] []) (s0 : Int32) (v6 : Int32) (v7 : Int32) (b8 : Nat) (v9 : Int32) (μ : WS), w_X1_cast_195 S P64 s0 v6 v7 b8 v9 μ Q → VV C 11 (HPW D ac ad (knX S) (ExX D ac ad S) (vS C)) (vQ C (QcW D ac ad (knX S) (qI Q)) 0 0 (inLay ad (knX S))) (μ, ()) 195 [(0, .ref (ad 104)), (6, .int v6), (7, .int v7), (8, .ref (ad b8)), (9, .int v9)] [.int s0] := by
    intro P64 h64 s0 v6 v7 b8 v9 μ h
    unfold w_X1_cast_195 at h
    refine vv_istore (lv' := [(10, .int s0), (0, .ref (ad 104)), (6, .int v6), (7, .int v7), (8, .ref (ad b8)), (9, .int v9)]) hC dX1_cast_195 (by decide) rfl ?_
    refine vv_iload hC dX1_cast_197 3 rfl ?_
    refine vv_iload hC dX1_cast_199 0 rfl ?_
    refine vv_if_eq (tgt := 211) hC dX1_cast_201 rfl (fun c20 => ?_) (fun c20 => ?_)
    · replace h := h.1 c20
      refine vv_iconst hC dX1_cast_211 xic_0 ?_
      refine vv_lv [1, 2, 4, 5] rfl ?_
      exact L212 _ h64 _ _ _ _ _ _ h
    · replace h := h.2 c20
      refine vv_iconst hC dX1_cast_204 xic_1 ?_
      refine vv_iload hC dX1_cast_205 5 rfl ?_
      refine vv_ishl hC dX1_cast_207 ?_
      refine vv_goto (tgt := 212) hC dX1_cast_208 rfl ?_
      refine vv_lv [1, 2, 4, 5] rfl ?_
      exact L212 _ h64 _ _ _ _ _ _ h
  have L118 : ∀ (P64 : Int32 → Int32 → Nat → Int32 → WS → Prop) (h64 : ∀ (v6 : Int32) (v7 : Int32) (b8 : Nat) (v9 : Int32) (μ : WS), P64 v6 v7 b8 v9 μ → VV C 11 (HPW D ac ad (knX S) (ExX D ac ad S) (vS C)) (vQ C (QcW D ac ad (knX S) (qI Q)) 0 0 (inLay ad (knX S))) (μ, ()) 64 [(0, .ref (ad 104)), (6, .int v6), (7, .int v7), (8, .ref (ad b8)), (9, .int v9)] []) (s0 : Int32) (v6 : Int32) (v7 : Int32) (b8 : Nat) (v9 : Int32) (μ : WS), w_X1_cast_118 S P64 s0 v6 v7 b8 v9 μ Q → VV C 11 (HPW D ac ad (knX S) (ExX D ac ad S) (vS C)) (vQ C (QcW D ac ad (knX S) (qI Q)) 0 0 (inLay ad (knX S))) (μ, ()) 118 [(0, .ref (ad 104)), (6, .int v6), (7, .int v7), (8, .ref (ad b8)), (9, .int v9)] [.int s0, .ref (ad 132)] := by
    intro P64 h64 s0 v6 v7 b8 v9 μ h
    unfold w_X1_cast_118 at h
    refine vv_puti hC hR hK fxX1_81_X2 132 (lx_132 S) rfl rfl rfl dX1_cast_118 ?_
    refine vv_st (fun y e => ?_)
    obtain ⟨μ15, _⟩ := y
    have eμ15 := congrArg Prod.fst e
    clear e
    replace h := h μ15 eμ15
    refine vv_aload_n hC dX1_cast_121 rfl 0 rfl ?_
    refine vv_getf hC hR hK fxX1_23_X1 104 (lx_104 S) rfl dX1_cast_122 ?_
    refine vv_iload hC dX1_cast_125 1 rfl ?_
    refine vv_iload hC dX1_cast_127 4 rfl ?_
    refine vv_iconst hC dX1_cast_129 xic_1 ?_
    refine vv_iadd hC dX1_cast_130 ?_
    refine vv_ishr hC dX1_cast_131 ?_
    refine vv_iconst hC dX1_cast_132 xic_1 ?_
    refine vv_iand hC dX1_cast_133 ?_
    refine vv_puti hC hR hK fxX1_84_X2 132 (lx_132 S) rfl rfl rfl dX1_cast_134 ?_
    refine vv_st (fun y e => ?_)
    obtain ⟨μ16, _⟩ := y
    have eμ16 := congrArg Prod.fst e
    clear e
    replace h := h μ16 eμ16
    refine vv_aload_n hC dX1_cast_137 rfl 0 rfl ?_
    refine vv_getf hC hR hK fxX1_23_X1 104 (lx_104 S) rfl dX1_cast_138 ?_
    refine vv_getf hC hR hK fxX1_78_X2 132 (lx_132 S) rfl dX1_cast_141 ?_
    refine vv_iconst hC dX1_cast_144 xic_1 ?_
    refine vv_icmp_ne (tgt := 173) hC dX1_cast_145 rfl (fun c17 => ?_) (fun c17 => ?_)
    · replace h := h.1 c17
      refine vv_aload hC dX1_cast_173 3 rfl ?_
      obtain ⟨hk32, h⟩ := h
      refine vv_getf hC hR hK fxX1_97_X10 b8 (kx_hand hk32) rfl dX1_cast_175 ?_
      refine vv_aload_n hC dX1_cast_178 rfl 0 rfl ?_
      refine vv_getf hC hR hK fxX1_23_X1 104 (lx_104 S) rfl dX1_cast_179 ?_
      obtain ⟨hk33, h⟩ := h
      refine node_row (vL C) D ac ad S hLay 1700 (ad (171 + 2 * (b8 - 140))) (S.2.2.2.2.2 (171 + 2 * (b8 - 140))) _ C _ _ _ μ16 () _ _ [] _ _ _ _ hC hR hK hRo rfl (fun x H locs c n hH => hR.2.2.2 x H locs c n hH (171 + 2 * (b8 - 140)) hk33) (by rw [hRm]; exact Nat.le_of_ble_eq_true rfl) (by rw [hRm]; exact Nat.le_of_ble_eq_true rfl) q1153 (Nat.le_of_ble_eq_true rfl) dX1_cast_182 ?_
      refine vv_if_eq (tgt := 194) hC dX1_cast_187 rfl (fun c18 => ?_) (fun c18 => ?_)
      · replace h := h.1 c18
        refine vv_iconst hC dX1_cast_194 xic_0 ?_
        exact L195 _ h64 _ _ _ _ _ _ h
      · replace h := h.2 c18
        refine vv_iconst hC dX1_cast_190 xic_1 ?_
        refine vv_goto (tgt := 195) hC dX1_cast_191 rfl ?_
        exact L195 _ h64 _ _ _ _ _ _ h
    · replace h := h.2 c17
      refine vv_aload hC dX1_cast_148 3 rfl ?_
      obtain ⟨hk34, h⟩ := h
      refine vv_getf hC hR hK fxX1_87_X10 b8 (kx_hand hk34) rfl dX1_cast_150 ?_
      refine vv_aload_n hC dX1_cast_153 rfl 0 rfl ?_
      refine vv_getf hC hR hK fxX1_23_X1 104 (lx_104 S) rfl dX1_cast_154 ?_
      obtain ⟨hk35, h⟩ := h
      refine node_row (vL C) D ac ad S hLay 1700 (ad (170 + 2 * (b8 - 140))) (S.2.2.2.2.2 (170 + 2 * (b8 - 140))) _ C _ _ _ μ16 () _ _ [] _ _ _ _ hC hR hK hRo rfl (fun x H locs c n hH => hR.2.2.2 x H locs c n hH (170 + 2 * (b8 - 140)) hk35) (by rw [hRm]; exact Nat.le_of_ble_eq_true rfl) (by rw [hRm]; exact Nat.le_of_ble_eq_true rfl) q1153 (Nat.le_of_ble_eq_true rfl) dX1_cast_157 ?_
      refine vv_if_ne (tgt := 169) hC dX1_cast_162 rfl (fun c19 => ?_) (fun c19 => ?_)
      · replace h := h.1 c19
        refine vv_iconst hC dX1_cast_169 xic_0 ?_
        refine vv_goto (tgt := 195) hC dX1_cast_170 rfl ?_
        exact L195 _ h64 _ _ _ _ _ _ h
      · replace h := h.2 c19
        refine vv_iconst hC dX1_cast_165 xic_1 ?_
        refine vv_goto (tgt := 195) hC dX1_cast_166 rfl ?_
        exact L195 _ h64 _ _ _ _ _ _ h
  have L64 : ∀ (v6 : Int32) (v7 : Int32) (b8 : Nat) (v9 : Int32) (μ : WS), w_X1_cast_64 S  v6 v7 b8 v9 μ Q → VV C 11 (HPW D ac ad (knX S) (ExX D ac ad S) (vS C)) (vQ C (QcW D ac ad (knX S) (qI Q)) 0 0 (inLay ad (knX S))) (μ, ()) 64 [(0, .ref (ad 104)), (6, .int v6), (7, .int v7), (8, .ref (ad b8)), (9, .int v9)] [] := by
    intro  v6 v7 b8 v9 μ h
    refine h (fun v6 v7 b8 v9 μ => VV C 11 (HPW D ac ad (knX S) (ExX D ac ad S) (vS C)) (vQ C (QcW D ac ad (knX S) (qI Q)) 0 0 (inLay ad (knX S))) (μ, ()) 64 [(0, .ref (ad 104)), (6, .int v6), (7, .int v7), (8, .ref (ad b8)), (9, .int v9)] []) ?_
    clear h; intro v6 v7 b8 v9 μ h
    have h64 : ∀ (v6 : Int32) (v7 : Int32) (b8 : Nat) (v9 : Int32) (μ : WS), (fun v6 v7 b8 v9 (μ : WS) => VV C 11 (HPW D ac ad (knX S) (ExX D ac ad S) (vS C)) (vQ C (QcW D ac ad (knX S) (qI Q)) 0 0 (inLay ad (knX S))) (μ, ()) 64 [(0, .ref (ad 104)), (6, .int v6), (7, .int v7), (8, .ref (ad b8)), (9, .int v9)] []) v6 v7 b8 v9 μ → VV C 11 (HPW D ac ad (knX S) (ExX D ac ad S) (vS C)) (vQ C (QcW D ac ad (knX S) (qI Q)) 0 0 (inLay ad (knX S))) (μ, ()) 64 [(0, .ref (ad 104)), (6, .int v6), (7, .int v7), (8, .ref (ad b8)), (9, .int v9)] [] := fun _ _ _ _ _ h => h
    unfold w_X1_cast_64b at h
    refine vv_iload hC dX1_cast_64 4 rfl ?_
    refine vv_aload_n hC dX1_cast_66 rfl 0 rfl ?_
    refine vv_getf hC hR hK fxX1_27_X1 104 (lx_104 S) rfl dX1_cast_67 ?_
    refine vv_icmp_ge (tgt := 221) hC dX1_cast_70 rfl (fun c11 => ?_) (fun c11 => ?_)
    · replace h := h.1 c11
      refine vv_iload hC dX1_cast_221 2 rfl ?_
      exact vv_iret hC hM dX1_cast_223 h
    · replace h := h.2 c11
      refine vv_aload_n hC dX1_cast_73 rfl 0 rfl ?_
      refine vv_getf hC hR hK fxX1_23_X1 104 (lx_104 S) rfl dX1_cast_74 ?_
      refine vv_iload hC dX1_cast_77 4 rfl ?_
      refine vv_puti hC hR hK fxX1_75_X2 132 (lx_132 S) rfl rfl rfl dX1_cast_79 ?_
      refine vv_st (fun y e => ?_)
      obtain ⟨μ12, _⟩ := y
      have eμ12 := congrArg Prod.fst e
      clear e
      replace h := h μ12 eμ12
      refine vv_aload_n hC dX1_cast_82 rfl 0 rfl ?_
      refine vv_getf hC hR hK fxX1_23_X1 104 (lx_104 S) rfl dX1_cast_83 ?_
      refine vv_iload hC dX1_cast_86 1 rfl ?_
      refine vv_iload hC dX1_cast_88 4 rfl ?_
      refine vv_ishr hC dX1_cast_90 ?_
      refine vv_iconst hC dX1_cast_91 xic_1 ?_
      refine vv_iand hC dX1_cast_92 ?_
      refine vv_puti hC hR hK fxX1_78_X2 132 (lx_132 S) rfl rfl rfl dX1_cast_93 ?_
      refine vv_st (fun y e => ?_)
      obtain ⟨μ13, _⟩ := y
      have eμ13 := congrArg Prod.fst e
      clear e
      replace h := h μ13 eμ13
      refine vv_aload_n hC dX1_cast_96 rfl 0 rfl ?_
      refine vv_getf hC hR hK fxX1_23_X1 104 (lx_104 S) rfl dX1_cast_97 ?_
      refine vv_iload hC dX1_cast_100 4 rfl ?_
      refine vv_if_ne (tgt := 109) hC dX1_cast_102 rfl (fun c14 => ?_) (fun c14 => ?_)
      · replace h := h.1 c14
        refine vv_iload hC dX1_cast_109 1 rfl ?_
        refine vv_iload hC dX1_cast_111 4 rfl ?_
        refine vv_iconst hC dX1_cast_113 xic_1 ?_
        refine vv_isub hC dX1_cast_114 ?_
        refine vv_ishr hC dX1_cast_115 ?_
        refine vv_iconst hC dX1_cast_116 xic_1 ?_
        refine vv_iand hC dX1_cast_117 ?_
        exact L118 _ h64 _ _ _ _ _ _ h
      · replace h := h.2 c14
        refine vv_iconst hC dX1_cast_105 xic_0 ?_
        refine vv_goto (tgt := 118) hC dX1_cast_106 rfl ?_
        exact L118 _ h64 _ _ _ _ _ _ h
  unfold w_X1_cast at h
  refine vv_aload_n hC dX1_cast_0 rfl 0 rfl ?_
  refine vv_iload_n hC dX1_cast_1 rfl 1 rfl ?_
  refine vv_callVi hC hR hK hRo hRm [.int v1] [] (met_X1_turn (vL C) D ac ad S hLay v1 μ _ h) gxX1_54 mf_X1_turn rfl (lx_104 S) rfl rfl rfl rfl dX1_cast_2 (fun r2 μ1 h => ?_)
  refine vv_istore (lv' := [(6, .int r2), (0, .ref (ad 104)), (1, .int v1), (2, .int v2), (3, .int v3), (4, .int v4), (5, .int v5)]) hC dX1_cast_5 (by decide) rfl ?_
  refine vv_iconst hC dX1_cast_7 xic_0 ?_
  refine vv_istore (lv' := [(7, .int 0), (6, .int r2), (0, .ref (ad 104)), (1, .int v1), (2, .int v2), (3, .int v3), (4, .int v4), (5, .int v5)]) hC dX1_cast_8 (by decide) rfl ?_
  refine vv_aload_n hC dX1_cast_10 rfl 2 rfl ?_
  refine vv_getf hC hR hK fxX1_14_X1 104 (lx_104 S) rfl dX1_cast_11 ?_
  refine vv_iload_n hC dX1_cast_14 rfl 4 rfl ?_
  refine vv_callVr hC hR hK hRo hRm [.int v2] [] (met_J2_get_133 (vL C) D ac ad S hLay v2 μ1 _ h) gxX1_38 mf_J2_get_133 rfl (lx_133 S) rfl rfl rfl rfl dX1_cast_15 (fun r4 μ3 h => ?_)
  obtain ⟨hk31, h⟩ := h
  refine vv_castS hC hR hK (kx_hand hk31) rfl q898 dX1_cast_18 ?_
  refine vv_astore (lv' := [(8, .ref (ad r4)), (7, .int 0), (6, .int r2), (0, .ref (ad 104)), (1, .int v1), (2, .int v2), (3, .int v3), (4, .int v4), (5, .int v5)]) hC dX1_cast_21 (by decide) rfl ?_
  refine vv_aload_n hC dX1_cast_23 rfl 3 rfl ?_
  refine vv_getf hC hR hK fxX1_23_X1 104 (lx_104 S) rfl dX1_cast_24 ?_
  refine vv_iload hC dX1_cast_27 2 rfl ?_
  refine vv_callSi hC hR hK hRo hRm [.int r2] [.ref (ad 132)] (met_J15_bitCount (vL C) D ac ad S hLay r2 μ3 _ h) gxX1_58 mf_J15_bitCount rfl rfl rfl dX1_cast_29 (fun r6 μ5 h => ?_)
  refine vv_puti hC hR hK fxX1_63_X2 132 (lx_132 S) rfl rfl rfl dX1_cast_32 ?_
  refine vv_st (fun y e => ?_)
  obtain ⟨μ7, _⟩ := y
  have eμ7 := congrArg Prod.fst e
  clear e
  replace h := h μ7 eμ7
  refine vv_aload_n hC dX1_cast_35 rfl 3 rfl ?_
  refine vv_getf hC hR hK fxX1_23_X1 104 (lx_104 S) rfl dX1_cast_36 ?_
  refine vv_iload hC dX1_cast_39 7 rfl ?_
  refine vv_puti hC hR hK fxX1_66_X2 132 (lx_132 S) rfl rfl rfl dX1_cast_41 ?_
  refine vv_st (fun y e => ?_)
  obtain ⟨μ8, _⟩ := y
  have eμ8 := congrArg Prod.fst e
  clear e
  replace h := h μ8 eμ8
  refine vv_aload_n hC dX1_cast_44 rfl 3 rfl ?_
  refine vv_getf hC hR hK fxX1_23_X1 104 (lx_104 S) rfl dX1_cast_45 ?_
  refine vv_iload_n hC dX1_cast_48 rfl 6 rfl ?_
  refine vv_puti hC hR hK fxX1_69_X2 132 (lx_132 S) rfl rfl rfl dX1_cast_49 ?_
  refine vv_st (fun y e => ?_)
  obtain ⟨μ9, _⟩ := y
  have eμ9 := congrArg Prod.fst e
  clear e
  replace h := h μ9 eμ9
  refine vv_aload_n hC dX1_cast_52 rfl 3 rfl ?_
  refine vv_getf hC hR hK fxX1_23_X1 104 (lx_104 S) rfl dX1_cast_53 ?_
  refine vv_iload hC dX1_cast_56 8 rfl ?_
  refine vv_puti hC hR hK fxX1_72_X2 132 (lx_132 S) rfl rfl rfl dX1_cast_58 ?_
  refine vv_st (fun y e => ?_)
  obtain ⟨μ10, _⟩ := y
  have eμ10 := congrArg Prod.fst e
  clear e
  replace h := h μ10 eμ10
  refine vv_iconst hC dX1_cast_61 xic_0 ?_
  refine vv_istore (lv' := [(9, .int 0), (8, .ref (ad r4)), (7, .int 0), (6, .int r2), (0, .ref (ad 104)), (1, .int v1), (2, .int v2), (3, .int v3), (4, .int v4), (5, .int v5)]) hC dX1_cast_62 (by decide) rfl ?_
  refine vv_lv [4, 3, 2, 1, 0] rfl ?_
  exact L64  _ _ _ _ _ h
