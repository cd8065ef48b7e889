set_option maxRecDepth 100000
def w_X4_clearBank (μ : WS) (Q : WS → Prop) : Prop := (vp_in (μ.1 0 30) 2 ∧ (∀ μ1 : WS, μ1 = wset μ 3 (μ.1 0 30).toNatClampNeg 8 → (vp_in (μ1.1 0 30) 2 ∧ (∀ μ2 : WS, μ2 = wset μ1 4 (μ1.1 0 30).toNatClampNeg 0 → (vp_in (μ2.1 0 30) 2 ∧ (∀ μ3 : WS, μ3 = wset μ2 5 (μ2.1 0 30).toNatClampNeg 0 → (vp_in (μ3.1 0 30) 2 ∧ (∀ μ4 : WS, μ4 = wset μ3 6 (μ3.1 0 30).toNatClampNeg 0 → (vp_in (μ4.1 0 30) 2 ∧ (∀ μ5 : WS, μ5 = wset μ4 7 (μ4.1 0 30).toNatClampNeg 100 → (vp_in (μ5.1 0 30) 2 ∧ (∀ μ6 : WS, μ6 = wset μ5 8 (μ5.1 0 30).toNatClampNeg 0 → (vp_in (μ6.1 0 30) 2 ∧ (∀ μ7 : WS, μ7 = wset μ6 9 (μ6.1 0 30).toNatClampNeg 0 → (vp_in (μ7.1 0 30) 2 ∧ (∀ μ8 : WS, μ8 = wset μ7 12 (μ7.1 0 30).toNatClampNeg (vp_nar .boolean 0) → (vp_in (μ8.1 0 30) 2 ∧ (∀ μ9 : WS, μ9 = wset μ8 13 (μ8.1 0 30).toNatClampNeg (vp_nar .boolean 0) → (vp_in (μ9.1 0 30) 2 ∧ (∀ μ10 : WS, μ10 = wset μ9 14 (μ9.1 0 30).toNatClampNeg (vp_nar .boolean 0) → (∀ μ11 : WS, μ11 = wset μ10 0 31 (560 * (μ10.1 0 30)) → Q μ11)))))))))))))))))))))
abbrev rm_X4_clearBank : Room := { frames := 0, cells := 0, slots := 0, locals := 0 }
theorem mf_X4_clearBank : MFact yX4_clearBank 0 rm_X4_clearBank := ⟨by decide +kernel, rfl, rfl⟩
set_option maxHeartbeats 4000000 in
theorem met_X4_clearBank (l : Launch) (D : va_G) (ac : Nat → ClassId) (ad : Nat → Nat) (Ex : Heap → Prop) (hLay : LayOk ad knM) (hEx : ExOk ad knM Ex) (μ : WS) (Q : WS → Prop) (h : w_X4_clearBank  μ Q) : CMet l yX4_clearBank cX4_clearBank 1 none rm_X4_clearBank D ac ad knM Ex [.ref (ad 0)] μ (qV Q) := by
  refine vv_met (lv := [(0, .ref (ad 0))]) (by decide) hLay hEx (Nat.le_of_ble_eq_true rfl) rfl ⟨rfl, rfl⟩ (fun C hC hK hRm hLl hR hM => ?_)
  subst hLl
  have hRo : RoomOk (HPW D ac ad knM Ex (vS C)) (vR C) := HPW.room
  unfold w_X4_clearBank at h
  refine vv_aload_n hC dX4_clearBank_0 rfl 0 rfl ?_
  refine vv_getf hC hR hK fa4_20 0 lm_0 (fm_11 ad _ _ _) dX4_clearBank_1 ?_
  refine vv_aload_n hC dX4_clearBank_4 rfl 0 rfl ?_
  refine vv_getf hC hR hK fa4_241 0 lm_0 (fm_30 ad _ _ _) dX4_clearBank_5 ?_
  refine vv_bipush hC dX4_clearBank_8 bp_8 ?_
  obtain ⟨hin, h⟩ := h
  refine vv_iast hC hR hK 3 lm_3 hin dX4_clearBank_10 ?_
  refine vv_st (fun y e => ?_)
  obtain ⟨μ1, _⟩ := y
  have eμ1 := congrArg Prod.fst e
  clear e
  replace h := h μ1 eμ1
  refine vv_aload_n hC dX4_clearBank_11 rfl 0 rfl ?_
  refine vv_getf hC hR hK fa4_24 0 lm_0 (fm_12 ad _ _ _) dX4_clearBank_12 ?_
  refine vv_aload_n hC dX4_clearBank_15 rfl 0 rfl ?_
  refine vv_getf hC hR hK fa4_241 0 lm_0 (fm_30 ad _ _ _) dX4_clearBank_16 ?_
  refine vv_iconst hC dX4_clearBank_19 ic_0 ?_
  obtain ⟨hin, h⟩ := h
  refine vv_iast hC hR hK 4 lm_4 hin dX4_clearBank_20 ?_
  refine vv_st (fun y e => ?_)
  obtain ⟨μ2, _⟩ := y
  have eμ2 := congrArg Prod.fst e
  clear e
  replace h := h μ2 eμ2
  refine vv_aload_n hC dX4_clearBank_21 rfl 0 rfl ?_
  refine vv_getf hC hR hK fa4_27 0 lm_0 (fm_13 ad _ _ _) dX4_clearBank_22 ?_
  refine vv_aload_n hC dX4_clearBank_25 rfl 0 rfl ?_
  refine vv_getf hC hR hK fa4_241 0 lm_0 (fm_30 ad _ _ _) dX4_clearBank_26 ?_
  refine vv_iconst hC dX4_clearBank_29 ic_0 ?_
  obtain ⟨hin, h⟩ := h
  refine vv_iast hC hR hK 5 lm_5 hin dX4_clearBank_30 ?_
  refine vv_st (fun y e => ?_)
  obtain ⟨μ3, _⟩ := y
  have eμ3 := congrArg Prod.fst e
  clear e
  replace h := h μ3 eμ3
  refine vv_aload_n hC dX4_clearBank_31 rfl 0 rfl ?_
  refine vv_getf hC hR hK fa4_30 0 lm_0 (fm_14 ad _ _ _) dX4_clearBank_32 ?_
  refine vv_aload_n hC dX4_clearBank_35 rfl 0 rfl ?_
  refine vv_getf hC hR hK fa4_241 0 lm_0 (fm_30 ad _ _ _) dX4_clearBank_36 ?_
  refine vv_iconst hC dX4_clearBank_39 ic_0 ?_
  obtain ⟨hin, h⟩ := h
  refine vv_iast hC hR hK 6 lm_6 hin dX4_clearBank_40 ?_
  refine vv_st (fun y e => ?_)
  obtain ⟨μ4, _⟩ := y
  have eμ4 := congrArg Prod.fst e
  clear e
  replace h := h μ4 eμ4
  refine vv_aload_n hC dX4_clearBank_41 rfl 0 rfl ?_
  refine vv_getf hC hR hK fa4_33 0 lm_0 (fm_15 ad _ _ _) dX4_clearBank_42 ?_
  refine vv_aload_n hC dX4_clearBank_45 rfl 0 rfl ?_
  refine vv_getf hC hR hK fa4_241 0 lm_0 (fm_30 ad _ _ _) dX4_clearBank_46 ?_
  refine vv_bipush hC dX4_clearBank_49 bp_100 ?_
  obtain ⟨hin, h⟩ := h
  refine vv_iast hC hR hK 7 lm_7 hin dX4_clearBank_51 ?_
  refine vv_st (fun y e => ?_)
  obtain ⟨μ5, _⟩ := y
  have eμ5 := congrArg Prod.fst e
  clear e
  replace h := h μ5 eμ5
  refine vv_aload_n hC dX4_clearBank_52 rfl 0 rfl ?_
  refine vv_getf hC hR hK fa4_36 0 lm_0 (fm_16 ad _ _ _) dX4_clearBank_53 ?_
  refine vv_aload_n hC dX4_clearBank_56 rfl 0 rfl ?_
  refine vv_getf hC hR hK fa4_241 0 lm_0 (fm_30 ad _ _ _) dX4_clearBank_57 ?_
  refine vv_iconst hC dX4_clearBank_60 ic_0 ?_
  obtain ⟨hin, h⟩ := h
  refine vv_iast hC hR hK 8 lm_8 hin dX4_clearBank_61 ?_
  refine vv_st (fun y e => ?_)
  obtain ⟨μ6, _⟩ := y
  have eμ6 := congrArg Prod.fst e
  clear e
  replace h := h μ6 eμ6
  refine vv_aload_n hC dX4_clearBank_62 rfl 0 rfl ?_
  refine vv_getf hC hR hK fa4_39 0 lm_0 (fm_17 ad _ _ _) dX4_clearBank_63 ?_
  refine vv_aload_n hC dX4_clearBank_66 rfl 0 rfl ?_
  refine vv_getf hC hR hK fa4_241 0 lm_0 (fm_30 ad _ _ _) dX4_clearBank_67 ?_
  refine vv_iconst hC dX4_clearBank_70 ic_0 ?_
  obtain ⟨hin, h⟩ := h
  refine vv_iast hC hR hK 9 lm_9 hin dX4_clearBank_71 ?_
  refine vv_st (fun y e => ?_)
  obtain ⟨μ7, _⟩ := y
  have eμ7 := congrArg Prod.fst e
  clear e
  replace h := h μ7 eμ7
  refine vv_aload_n hC dX4_clearBank_72 rfl 0 rfl ?_
  refine vv_getf hC hR hK fa4_48 0 lm_0 (fm_20 ad _ _ _) dX4_clearBank_73 ?_
  refine vv_aload_n hC dX4_clearBank_76 rfl 0 rfl ?_
  refine vv_getf hC hR hK fa4_241 0 lm_0 (fm_30 ad _ _ _) dX4_clearBank_77 ?_
  refine vv_iconst hC dX4_clearBank_80 ic_0 ?_
  obtain ⟨hin, h⟩ := h
  refine vv_zast hC hR hK 12 lm_12 hin dX4_clearBank_81 ?_
  refine vv_st (fun y e => ?_)
  obtain ⟨μ8, _⟩ := y
  have eμ8 := congrArg Prod.fst e
  clear e
  replace h := h μ8 eμ8
  refine vv_aload_n hC dX4_clearBank_82 rfl 0 rfl ?_
  refine vv_getf hC hR hK fa4_52 0 lm_0 (fm_21 ad _ _ _) dX4_clearBank_83 ?_
  refine vv_aload_n hC dX4_clearBank_86 rfl 0 rfl ?_
  refine vv_getf hC hR hK fa4_241 0 lm_0 (fm_30 ad _ _ _) dX4_clearBank_87 ?_
  refine vv_iconst hC dX4_clearBank_90 ic_0 ?_
  obtain ⟨hin, h⟩ := h
  refine vv_zast hC hR hK 13 lm_13 hin dX4_clearBank_91 ?_
  refine vv_st (fun y e => ?_)
  obtain ⟨μ9, _⟩ := y
  have eμ9 := congrArg Prod.fst e
  clear e
  replace h := h μ9 eμ9
  refine vv_aload_n hC dX4_clearBank_92 rfl 0 rfl ?_
  refine vv_getf hC hR hK fa4_55 0 lm_0 (fm_22 ad _ _ _) dX4_clearBank_93 ?_
  refine vv_aload_n hC dX4_clearBank_96 rfl 0 rfl ?_
  refine vv_getf hC hR hK fa4_241 0 lm_0 (fm_30 ad _ _ _) dX4_clearBank_97 ?_
  refine vv_iconst hC dX4_clearBank_100 ic_0 ?_
  obtain ⟨hin, h⟩ := h
  refine vv_zast hC hR hK 14 lm_14 hin dX4_clearBank_101 ?_
  refine vv_st (fun y e => ?_)
  obtain ⟨μ10, _⟩ := y
  have eμ10 := congrArg Prod.fst e
  clear e
  replace h := h μ10 eμ10
  refine vv_aload_n hC dX4_clearBank_102 rfl 0 rfl ?_
  refine vv_sipush hC dX4_clearBank_103 sp_560 ?_
  refine vv_aload_n hC dX4_clearBank_106 rfl 0 rfl ?_
  refine vv_getf hC hR hK fa4_241 0 lm_0 (fm_30 ad _ _ _) dX4_clearBank_107 ?_
  refine vv_imul hC dX4_clearBank_110 ?_
  refine vv_puti hC hR hK fa4_244 0 lm_0 fn_31 rfl rfl dX4_clearBank_111 ?_
  refine vv_st (fun y e => ?_)
  obtain ⟨μ11, _⟩ := y
  have eμ11 := congrArg Prod.fst e
  clear e
  replace h := h μ11 eμ11
  exact vv_vret hC hM dX4_clearBank_114 h
def w_X4_startAnew_116b (P116 : Int32 → WS → Prop) (v1 : Int32) (μ : WS) (Q : WS → Prop) : Prop := ((3 ≤ v1) → Q μ) ∧ ((¬ 3 ≤ v1) → (vp_in v1 3 ∧ (∀ μ14 : WS, μ14 = wset μ 43 v1.toNatClampNeg (vp_nar .boolean 0) → P116 (v1 + 1) μ14)))
def w_X4_startAnew_116 (v1 : Int32) (μ : WS) (Q : WS → Prop) : Prop := ∀ P116 : Int32 → WS → Prop, (∀ (v1 : Int32) (μ : WS), w_X4_startAnew_116b  P116 v1 μ Q → P116 v1 μ) → P116 v1 μ
def w_X4_startAnew_2b (P2 : Int32 → WS → Prop) (v1 : Int32) (μ : WS) (Q : WS → Prop) : Prop := ((221 ≤ v1) → (vp_in (μ.1 0 29) 2 ∧ (∀ μ2 : WS, μ2 = wset μ 21 0 (μ.1 4 (μ.1 0 29).toNatClampNeg) → (∀ μ3 : WS, μ3 = wset μ2 21 1 (-1) → (∀ μ4 : WS, μ4 = wset μ3 21 2 (-1) → (∀ μ5 : WS, μ5 = wset μ4 21 216 1 → (vp_in (μ5.1 0 29) 2 ∧ (∀ μ6 : WS, μ6 = wset μ5 21 218 (μ5.1 7 (μ5.1 0 29).toNatClampNeg) → (vp_in (μ6.1 0 29) 2 ∧ (∀ μ7 : WS, μ7 = wset μ6 21 220 (μ6.1 8 (μ6.1 0 29).toNatClampNeg) → (∀ μ8 : WS, μ8 = wset μ7 0 42 0 → (∀ μ9 : WS, μ9 = wset μ8 0 43 0 → (∀ μ10 : WS, μ10 = wset μ9 0 58 0 → (∀ μ11 : WS, μ11 = wset μ10 0 48 0 → w_X4_startAnew_116 0 μ11 Q)))))))))))))) ∧ ((¬ 221 ≤ v1) → (vp_in v1 221 ∧ (∀ μ12 : WS, μ12 = wset μ 21 v1.toNatClampNeg 0 → P2 (v1 + 1) μ12)))
def w_X4_startAnew_2 (v1 : Int32) (μ : WS) (Q : WS → Prop) : Prop := ∀ P2 : Int32 → WS → Prop, (∀ (v1 : Int32) (μ : WS), w_X4_startAnew_2b  P2 v1 μ Q → P2 v1 μ) → P2 v1 μ
def w_X4_startAnew (μ : WS) (Q : WS → Prop) : Prop := w_X4_startAnew_2 0 μ Q
abbrev rm_X4_startAnew : Room := { frames := 0, cells := 0, slots := 0, locals := 0 }
theorem mf_X4_startAnew : MFact yX4_startAnew 0 rm_X4_startAnew := ⟨by decide +kernel, rfl, rfl⟩
set_option maxHeartbeats 4000000 in
theorem met_X4_startAnew (l : Launch) (D : va_G) (ac : Nat → ClassId) (ad : Nat → Nat) (Ex : Heap → Prop) (hLay : LayOk ad knM) (hEx : ExOk ad knM Ex) (μ : WS) (Q : WS → Prop) (h : w_X4_startAnew  μ Q) : CMet l yX4_startAnew cX4_startAnew 2 none rm_X4_startAnew D ac ad knM Ex [.ref (ad 0)] μ (qV Q) := by
  refine vv_met (lv := [(0, .ref (ad 0))]) (by decide) hLay hEx (Nat.le_of_ble_eq_true rfl) rfl ⟨rfl, rfl⟩ (fun C hC hK hRm hLl hR hM => ?_)
  subst hLl
  have hRo : RoomOk (HPW D ac ad knM Ex (vS C)) (vR C) := HPW.room
  have L116 : ∀ (v1 : Int32) (μ : WS), w_X4_startAnew_116  v1 μ Q → VV C 2 (HPW D ac ad knM Ex (vS C)) (vQ C (QcW D ac ad knM (qV Q)) 0 0 (inLay ad knM)) (μ, ()) 116 [(0, .ref (ad 0)), (1, .int v1)] [] := by
    intro  v1 μ h
    refine h (fun v1 μ => VV C 2 (HPW D ac ad knM Ex (vS C)) (vQ C (QcW D ac ad knM (qV Q)) 0 0 (inLay ad knM)) (μ, ()) 116 [(0, .ref (ad 0)), (1, .int v1)] []) ?_
    clear h; intro v1 μ h
    have h116 : ∀ (v1 : Int32) (μ : WS), (fun v1 (μ : WS) => VV C 2 (HPW D ac ad knM Ex (vS C)) (vQ C (QcW D ac ad knM (qV Q)) 0 0 (inLay ad knM)) (μ, ()) 116 [(0, .ref (ad 0)), (1, .int v1)] []) v1 μ → VV C 2 (HPW D ac ad knM Ex (vS C)) (vQ C (QcW D ac ad knM (qV Q)) 0 0 (inLay ad knM)) (μ, ()) 116 [(0, .ref (ad 0)), (1, .int v1)] [] := fun _ _ h => h
    unfold w_X4_startAnew_116b at h
    refine vv_iload_n hC dX4_startAnew_116 rfl 1 rfl ?_
    refine vv_iconst hC dX4_startAnew_117 ic_3 ?_
    refine vv_icmp_ge (tgt := 134) hC dX4_startAnew_118 rfl (fun c13 => ?_) (fun c13 => ?_)
    · replace h := h.1 c13
      exact vv_vret hC hM dX4_startAnew_134 h
    · replace h := h.2 c13
      refine vv_aload_n hC dX4_startAnew_121 rfl 0 rfl ?_
      refine vv_getf hC hR hK fa4_144 0 lm_0 (fm_68 ad _ _ _) dX4_startAnew_122 ?_
      refine vv_iload_n hC dX4_startAnew_125 rfl 1 rfl ?_
      refine vv_iconst hC dX4_startAnew_126 ic_0 ?_
      obtain ⟨hin, h⟩ := h
      refine vv_zast hC hR hK 43 lm_43 hin dX4_startAnew_127 ?_
      refine vv_st (fun y e => ?_)
      obtain ⟨μ14, _⟩ := y
      have eμ14 := congrArg Prod.fst e
      clear e
      replace h := h μ14 eμ14
      refine vv_iinc (pl := 1) (v := v1 + 1) (lv' := [(1, .int (v1 + 1)), (0, .ref (ad 0))]) hC dX4_startAnew_128 rfl rfl (by decide) rfl ?_
      refine vv_goto (tgt := 116) hC dX4_startAnew_131 rfl ?_
      refine vv_lv [1, 0] rfl ?_
      exact h116 _ _ h
  have L2 : ∀ (v1 : Int32) (μ : WS), w_X4_startAnew_2  v1 μ Q → VV C 2 (HPW D ac ad knM Ex (vS C)) (vQ C (QcW D ac ad knM (qV Q)) 0 0 (inLay ad knM)) (μ, ()) 2 [(0, .ref (ad 0)), (1, .int v1)] [] := by
    intro  v1 μ h
    refine h (fun v1 μ => VV C 2 (HPW D ac ad knM Ex (vS C)) (vQ C (QcW D ac ad knM (qV Q)) 0 0 (inLay ad knM)) (μ, ()) 2 [(0, .ref (ad 0)), (1, .int v1)] []) ?_
    clear h; intro v1 μ h
    have h2 : ∀ (v1 : Int32) (μ : WS), (fun v1 (μ : WS) => VV C 2 (HPW D ac ad knM Ex (vS C)) (vQ C (QcW D ac ad knM (qV Q)) 0 0 (inLay ad knM)) (μ, ()) 2 [(0, .ref (ad 0)), (1, .int v1)] []) v1 μ → VV C 2 (HPW D ac ad knM Ex (vS C)) (vQ C (QcW D ac ad knM (qV Q)) 0 0 (inLay ad knM)) (μ, ()) 2 [(0, .ref (ad 0)), (1, .int v1)] [] := fun _ _ h => h
    unfold w_X4_startAnew_2b at h
    refine vv_iload_n hC dX4_startAnew_2 rfl 1 rfl ?_
    refine vv_sipush hC dX4_startAnew_3 sp_221 ?_
    refine vv_icmp_ge (tgt := 22) hC dX4_startAnew_6 rfl (fun c1 => ?_) (fun c1 => ?_)
    · replace h := h.1 c1
      refine vv_aload_n hC dX4_startAnew_22 rfl 0 rfl ?_
      refine vv_getf hC hR hK fa4_77 0 lm_0 (fm_40 ad _ _ _) dX4_startAnew_23 ?_
      refine vv_iconst hC dX4_startAnew_26 ic_0 ?_
      refine vv_aload_n hC dX4_startAnew_27 rfl 0 rfl ?_
      refine vv_getf hC hR hK fa4_24 0 lm_0 (fm_12 ad _ _ _) dX4_startAnew_28 ?_
      refine vv_aload_n hC dX4_startAnew_31 rfl 0 rfl ?_
      refine vv_getf hC hR hK fa4_250 0 lm_0 (fm_29 ad _ _ _) dX4_startAnew_32 ?_
      obtain ⟨hin, h⟩ := h
      refine vv_iald hC hR hK 4 lm_4 hin dX4_startAnew_35 ?_
      refine vv_iast hC hR hK 21 lm_21 vin_0_221 dX4_startAnew_36 ?_
      refine vv_st (fun y e => ?_)
      obtain ⟨μ2, _⟩ := y
      have eμ2 := congrArg Prod.fst e
      clear e
      replace h := h μ2 eμ2
      refine vv_aload_n hC dX4_startAnew_37 rfl 0 rfl ?_
      refine vv_getf hC hR hK fa4_77 0 lm_0 (fm_40 ad _ _ _) dX4_startAnew_38 ?_
      refine vv_iconst hC dX4_startAnew_41 ic_1 ?_
      refine vv_iconst hC dX4_startAnew_42 ic_m1 ?_
      refine vv_iast hC hR hK 21 lm_21 vin_1_221 dX4_startAnew_43 ?_
      refine vv_st (fun y e => ?_)
      obtain ⟨μ3, _⟩ := y
      have eμ3 := congrArg Prod.fst e
      clear e
      replace h := h μ3 eμ3
      refine vv_aload_n hC dX4_startAnew_44 rfl 0 rfl ?_
      refine vv_getf hC hR hK fa4_77 0 lm_0 (fm_40 ad _ _ _) dX4_startAnew_45 ?_
      refine vv_iconst hC dX4_startAnew_48 ic_2 ?_
      refine vv_iconst hC dX4_startAnew_49 ic_m1 ?_
      refine vv_iast hC hR hK 21 lm_21 vin_2_221 dX4_startAnew_50 ?_
      refine vv_st (fun y e => ?_)
      obtain ⟨μ4, _⟩ := y
      have eμ4 := congrArg Prod.fst e
      clear e
      replace h := h μ4 eμ4
      refine vv_aload_n hC dX4_startAnew_51 rfl 0 rfl ?_
      refine vv_getf hC hR hK fa4_77 0 lm_0 (fm_40 ad _ _ _) dX4_startAnew_52 ?_
      refine vv_sipush hC dX4_startAnew_55 sp_216 ?_
      refine vv_iconst hC dX4_startAnew_58 ic_1 ?_
      refine vv_iast hC hR hK 21 lm_21 vin_216_221 dX4_startAnew_59 ?_
      refine vv_st (fun y e => ?_)
      obtain ⟨μ5, _⟩ := y
      have eμ5 := congrArg Prod.fst e
      clear e
      replace h := h μ5 eμ5
      refine vv_aload_n hC dX4_startAnew_60 rfl 0 rfl ?_
      refine vv_getf hC hR hK fa4_77 0 lm_0 (fm_40 ad _ _ _) dX4_startAnew_61 ?_
      refine vv_sipush hC dX4_startAnew_64 sp_218 ?_
      refine vv_aload_n hC dX4_startAnew_67 rfl 0 rfl ?_
      refine vv_getf hC hR hK fa4_33 0 lm_0 (fm_15 ad _ _ _) dX4_startAnew_68 ?_
      refine vv_aload_n hC dX4_startAnew_71 rfl 0 rfl ?_
      refine vv_getf hC hR hK fa4_250 0 lm_0 (fm_29 ad _ _ _) dX4_startAnew_72 ?_
      obtain ⟨hin, h⟩ := h
      refine vv_iald hC hR hK 7 lm_7 hin dX4_startAnew_75 ?_
      refine vv_iast hC hR hK 21 lm_21 vin_218_221 dX4_startAnew_76 ?_
      refine vv_st (fun y e => ?_)
      obtain ⟨μ6, _⟩ := y
      have eμ6 := congrArg Prod.fst e
      clear e
      replace h := h μ6 eμ6
      refine vv_aload_n hC dX4_startAnew_77 rfl 0 rfl ?_
      refine vv_getf hC hR hK fa4_77 0 lm_0 (fm_40 ad _ _ _) dX4_startAnew_78 ?_
      refine vv_sipush hC dX4_startAnew_81 sp_220 ?_
      refine vv_aload_n hC dX4_startAnew_84 rfl 0 rfl ?_
      refine vv_getf hC hR hK fa4_36 0 lm_0 (fm_16 ad _ _ _) dX4_startAnew_85 ?_
      refine vv_aload_n hC dX4_startAnew_88 rfl 0 rfl ?_
      refine vv_getf hC hR hK fa4_250 0 lm_0 (fm_29 ad _ _ _) dX4_startAnew_89 ?_
      obtain ⟨hin, h⟩ := h
      refine vv_iald hC hR hK 8 lm_8 hin dX4_startAnew_92 ?_
      refine vv_iast hC hR hK 21 lm_21 vin_220_221 dX4_startAnew_93 ?_
      refine vv_st (fun y e => ?_)
      obtain ⟨μ7, _⟩ := y
      have eμ7 := congrArg Prod.fst e
      clear e
      replace h := h μ7 eμ7
      refine vv_aload_n hC dX4_startAnew_94 rfl 0 rfl ?_
      refine vv_iconst hC dX4_startAnew_95 ic_0 ?_
      refine vv_puti hC hR hK fa4_371 0 lm_0 fn_42 rfl rfl dX4_startAnew_96 ?_
      refine vv_st (fun y e => ?_)
      obtain ⟨μ8, _⟩ := y
      have eμ8 := congrArg Prod.fst e
      clear e
      replace h := h μ8 eμ8
      refine vv_aload_n hC dX4_startAnew_99 rfl 0 rfl ?_
      refine vv_iconst hC dX4_startAnew_100 ic_0 ?_
      refine vv_puti hC hR hK fa4_374 0 lm_0 fn_43 rfl rfl dX4_startAnew_101 ?_
      refine vv_st (fun y e => ?_)
      obtain ⟨μ9, _⟩ := y
      have eμ9 := congrArg Prod.fst e
      clear e
      replace h := h μ9 eμ9
      refine vv_aload_n hC dX4_startAnew_104 rfl 0 rfl ?_
      refine vv_iconst hC dX4_startAnew_105 ic_0 ?_
      refine vv_puti hC hR hK fa4_377 0 lm_0 fn_58 rfl rfl dX4_startAnew_106 ?_
      refine vv_st (fun y e => ?_)
      obtain ⟨μ10, _⟩ := y
      have eμ10 := congrArg Prod.fst e
      clear e
      replace h := h μ10 eμ10
      refine vv_aload_n hC dX4_startAnew_109 rfl 0 rfl ?_
      refine vv_iconst hC dX4_startAnew_110 ic_0 ?_
      refine vv_puti hC hR hK fa4_380 0 lm_0 fn_48 rfl rfl dX4_startAnew_111 ?_
      refine vv_st (fun y e => ?_)
      obtain ⟨μ11, _⟩ := y
      have eμ11 := congrArg Prod.fst e
      clear e
      replace h := h μ11 eμ11
      refine vv_iconst hC dX4_startAnew_114 ic_0 ?_
      refine vv_istore_n (lv' := [(1, .int 0), (0, .ref (ad 0))]) hC dX4_startAnew_115 rfl (by decide) rfl ?_
      refine vv_lv [1, 0] rfl ?_
      exact L116  _ _ h
    · replace h := h.2 c1
      refine vv_aload_n hC dX4_startAnew_9 rfl 0 rfl ?_
      refine vv_getf hC hR hK fa4_77 0 lm_0 (fm_40 ad _ _ _) dX4_startAnew_10 ?_
      refine vv_iload_n hC dX4_startAnew_13 rfl 1 rfl ?_
      refine vv_iconst hC dX4_startAnew_14 ic_0 ?_
      obtain ⟨hin, h⟩ := h
      refine vv_iast hC hR hK 21 lm_21 hin dX4_startAnew_15 ?_
      refine vv_st (fun y e => ?_)
      obtain ⟨μ12, _⟩ := y
      have eμ12 := congrArg Prod.fst e
      clear e
      replace h := h μ12 eμ12
      refine vv_iinc (pl := 1) (v := v1 + 1) (lv' := [(1, .int (v1 + 1)), (0, .ref (ad 0))]) hC dX4_startAnew_16 rfl rfl (by decide) rfl ?_
      refine vv_goto (tgt := 2) hC dX4_startAnew_19 rfl ?_
      refine vv_lv [1, 0] rfl ?_
      exact h2 _ _ h
  unfold w_X4_startAnew at h
  refine vv_iconst hC dX4_startAnew_0 ic_0 ?_
  refine vv_istore_n (lv' := [(1, .int 0), (0, .ref (ad 0))]) hC dX4_startAnew_1 rfl (by decide) rfl ?_
  refine vv_lv [1, 0] rfl ?_
  exact L2  _ _ h
def w_X4_sign (v1 : Int32) (μ : WS) (Q : Int32 → WS → Prop) : Prop := ((μ.1 0 3 ≤ v1) → Q 0 μ) ∧ ((¬ μ.1 0 3 ≤ v1) → (vp_in v1 1600 ∧ Q ((μ.1 2 v1.toNatClampNeg) &&& 255) μ))
abbrev rm_X4_sign : Room := { frames := 0, cells := 0, slots := 0, locals := 0 }
theorem mf_X4_sign : MFact yX4_sign 1 rm_X4_sign := ⟨by decide +kernel, rfl, rfl⟩
set_option maxHeartbeats 4000000 in
theorem met_X4_sign (l : Launch) (D : va_G) (ac : Nat → ClassId) (ad : Nat → Nat) (Ex : Heap → Prop) (hLay : LayOk ad knM) (hEx : ExOk ad knM Ex) (v1 : Int32) (μ : WS) (Q : Int32 → WS → Prop) (h : w_X4_sign v1 μ Q) : CMet l yX4_sign cX4_sign 2 (some .int) rm_X4_sign D ac ad knM Ex [.ref (ad 0), .int v1] μ (qI Q) := by
  refine vv_met (lv := [(0, .ref (ad 0)), (1, .int v1)]) (by decide) hLay hEx (Nat.le_of_ble_eq_true rfl) rfl ⟨rfl, rfl⟩ (fun C hC hK hRm hLl hR hM => ?_)
  subst hLl
  have hRo : RoomOk (HPW D ac ad knM Ex (vS C)) (vR C) := HPW.room
  unfold w_X4_sign at h
  refine vv_iload_n hC dX4_sign_0 rfl 1 rfl ?_
  refine vv_aload_n hC dX4_sign_1 rfl 0 rfl ?_
  refine vv_getf hC hR hK fa4_153 0 lm_0 (fm_3 ad _ _ _) dX4_sign_2 ?_
  refine vv_icmp_ge (tgt := 21) hC dX4_sign_5 rfl (fun c1 => ?_) (fun c1 => ?_)
  · replace h := h.1 c1
    refine vv_iconst hC dX4_sign_21 ic_0 ?_
    exact vv_iret hC hM dX4_sign_22 h
  · replace h := h.2 c1
    refine vv_aload_n hC dX4_sign_8 rfl 0 rfl ?_
    refine vv_getf hC hR hK fa4_13 0 lm_0 (fm_1 ad _ _ _) dX4_sign_9 ?_
    refine vv_iload_n hC dX4_sign_12 rfl 1 rfl ?_
    obtain ⟨hin, h⟩ := h
    refine vv_bald hC hR hK 2 lm_2 hin dX4_sign_13 ?_
    refine vv_sipush hC dX4_sign_14 sp_255 ?_
    refine vv_iand hC dX4_sign_17 ?_
    refine vv_goto (tgt := 22) hC dX4_sign_18 rfl ?_
    exact vv_iret hC hM dX4_sign_22 h
def w_X4_isLetter (v0 : Int32) (μ : WS) (Q : Int32 → WS → Prop) : Prop := ((v0 < 97) → Q 0 μ) ∧ ((¬ v0 < 97) → ((122 < v0) → Q 0 μ) ∧ ((¬ 122 < v0) → Q 1 μ))
abbrev rm_X4_isLetter : Room := { frames := 0, cells := 0, slots := 0, locals := 0 }
theorem mf_X4_isLetter : MFact yX4_isLetter 1 rm_X4_isLetter := ⟨by decide +kernel, rfl, rfl⟩
set_option maxHeartbeats 4000000 in
theorem met_X4_isLetter (l : Launch) (D : va_G) (ac : Nat → ClassId) (ad : Nat → Nat) (Ex : Heap → Prop) (hLay : LayOk ad knM) (hEx : ExOk ad knM Ex) (v0 : Int32) (μ : WS) (Q : Int32 → WS → Prop) (h : w_X4_isLetter v0 μ Q) : CMet l yX4_isLetter cX4_isLetter 1 (some .boolean) rm_X4_isLetter D ac ad knM Ex [.int v0] μ (qI Q) := by
  refine vv_met (lv := [(0, .int v0)]) (by decide) hLay hEx (Nat.le_of_ble_eq_true rfl) rfl ⟨rfl, rfl⟩ (fun C hC hK hRm hLl hR hM => ?_)
  subst hLl
  have hRo : RoomOk (HPW D ac ad knM Ex (vS C)) (vR C) := HPW.room
  unfold w_X4_isLetter at h
  refine vv_iload_n hC dX4_isLetter_0 rfl 0 rfl ?_
  refine vv_bipush hC dX4_isLetter_1 bp_97 ?_
  refine vv_icmp_lt (tgt := 16) hC dX4_isLetter_3 rfl (fun c1 => ?_) (fun c1 => ?_)
  · replace h := h.1 c1
    refine vv_iconst hC dX4_isLetter_16 ic_0 ?_
    exact vv_zret hC hM dX4_isLetter_17 isB_0 h
  · replace h := h.2 c1
    refine vv_iload_n hC dX4_isLetter_6 rfl 0 rfl ?_
    refine vv_bipush hC dX4_isLetter_7 bp_122 ?_
    refine vv_icmp_gt (tgt := 16) hC dX4_isLetter_9 rfl (fun c2 => ?_) (fun c2 => ?_)
    · replace h := h.1 c2
      refine vv_iconst hC dX4_isLetter_16 ic_0 ?_
      exact vv_zret hC hM dX4_isLetter_17 isB_0 h
    · replace h := h.2 c2
      refine vv_iconst hC dX4_isLetter_12 ic_1 ?_
      refine vv_goto (tgt := 17) hC dX4_isLetter_13 rfl ?_
      exact vv_zret hC hM dX4_isLetter_17 isB_1 h
def w_X4_isKept_77 (s0 : Int32) (v0 : Int64) (μ : WS) (Q : Int32 → WS → Prop) : Prop := ((¬ s0 = 0) → Q 1 μ) ∧ ((s0 = 0) → ((lg_cmp v0 1818584692 = 0) → Q 1 μ) ∧ ((¬ lg_cmp v0 1818584692 = 0) → ((lg_cmp v0 491394656372 = 0) → Q 1 μ) ∧ ((¬ lg_cmp v0 491394656372 = 0) → ((lg_cmp v0 1835101817 = 0) → Q 1 μ) ∧ ((¬ lg_cmp v0 1835101817 = 0) → ((lg_cmp v0 2036687218 = 0) → Q 1 μ) ∧ ((¬ lg_cmp v0 2036687218 = 0) → ((lg_cmp v0 1751474548 = 0) → Q 1 μ) ∧ ((¬ lg_cmp v0 1751474548 = 0) → ((lg_cmp v0 28530 = 0) → Q 1 μ) ∧ ((¬ lg_cmp v0 28530 = 0) → ((lg_cmp v0 6385252 = 0) → Q 1 μ) ∧ ((¬ lg_cmp v0 6385252 = 0) → ((¬ lg_cmp v0 7237492 = 0) → Q 0 μ) ∧ ((lg_cmp v0 7237492 = 0) → Q 1 μ)))))))))
def w_X4_isKept_72 (v0 : Int64) (μ : WS) (Q : Int32 → WS → Prop) : Prop := w_X4_isKept_77 1 v0 μ Q
def w_X4_isKept (v0 : Int64) (μ : WS) (Q : Int32 → WS → Prop) : Prop := ((lg_cmp v0 469786323827 = 0) → w_X4_isKept_72 v0 μ Q) ∧ ((¬ lg_cmp v0 469786323827 = 0) → ((lg_cmp v0 439855772532 = 0) → w_X4_isKept_72 v0 μ Q) ∧ ((¬ lg_cmp v0 439855772532 = 0) → ((lg_cmp v0 1751215716 = 0) → w_X4_isKept_72 v0 μ Q) ∧ ((¬ lg_cmp v0 1751215716 = 0) → ((lg_cmp v0 512801993331 = 0) → w_X4_isKept_72 v0 μ Q) ∧ ((¬ lg_cmp v0 512801993331 = 0) → ((lg_cmp v0 439855377523 = 0) → w_X4_isKept_72 v0 μ Q) ∧ ((¬ lg_cmp v0 439855377523 = 0) → ((lg_cmp v0 7823736 = 0) → w_X4_isKept_72 v0 μ Q) ∧ ((¬ lg_cmp v0 7823736 = 0) → ((lg_cmp v0 1685217655 = 0) → w_X4_isKept_72 v0 μ Q) ∧ ((¬ lg_cmp v0 1685217655 = 0) → ((lg_cmp v0 1835102827 = 0) → w_X4_isKept_72 v0 μ Q) ∧ ((¬ lg_cmp v0 1835102827 = 0) → ((¬ lg_cmp v0 6840691 = 0) → w_X4_isKept_77 0 v0 μ Q) ∧ ((lg_cmp v0 6840691 = 0) → w_X4_isKept_72 v0 μ Q)))))))))
abbrev rm_X4_isKept : Room := { frames := 0, cells := 0, slots := 0, locals := 0 }
theorem mf_X4_isKept : MFact yX4_isKept 1 rm_X4_isKept := ⟨by decide +kernel, rfl, rfl⟩
set_option maxHeartbeats 4000000 in
theorem met_X4_isKept (l : Launch) (D : va_G) (ac : Nat → ClassId) (ad : Nat → Nat) (Ex : Heap → Prop) (hLay : LayOk ad knM) (hEx : ExOk ad knM Ex) (v0 : Int64) (μ : WS) (Q : Int32 → WS → Prop) (h : w_X4_isKept v0 μ Q) : CMet l yX4_isKept cX4_isKept 3 (some .boolean) rm_X4_isKept D ac ad knM Ex [.long v0] μ (qI Q) := by
  refine vv_met (lv := [(0, .long v0)]) (by decide) hLay hEx (Nat.le_of_ble_eq_true rfl) rfl ⟨rfl, rfl⟩ (fun C hC hK hRm hLl hR hM => ?_)
  subst hLl
  have hRo : RoomOk (HPW D ac ad knM Ex (vS C)) (vR C) := HPW.room
  have L77 : ∀ (s0 : Int32) (v0 : Int64) (μ : WS), w_X4_isKept_77  s0 v0 μ Q → VV C 3 (HPW D ac ad knM Ex (vS C)) (vQ C (QcW D ac ad knM (qI Q)) 0 0 (inLay ad knM)) (μ, ()) 77 [(0, .long v0)] [.int s0] := by
    intro  s0 v0 μ h
    unfold w_X4_isKept_77 at h
    refine vv_istore_n (lv' := [(2, .int s0), (0, .long v0)]) hC dX4_isKept_77 rfl (by decide) rfl ?_
    refine vv_iload_n hC dX4_isKept_78 rfl 0 rfl ?_
    refine vv_if_ne (tgt := 146) hC dX4_isKept_79 rfl (fun c10 => ?_) (fun c10 => ?_)
    · replace h := h.1 c10
      refine vv_iconst hC dX4_isKept_146 ic_1 ?_
      refine vv_goto (tgt := 151) hC dX4_isKept_147 rfl ?_
      exact vv_zret hC hM dX4_isKept_151 isB_1 h
    · replace h := h.2 c10
      refine vv_lload_n hC dX4_isKept_82 rfl 1 rfl ?_
      refine vv_ldc2 hC q1865 dX4_isKept_83 ?_
      refine vv_lcmp hC dX4_isKept_86 ?_
      refine vv_if_eq (tgt := 146) hC dX4_isKept_87 rfl (fun c11 => ?_) (fun c11 => ?_)
      · replace h := h.1 c11
        refine vv_iconst hC dX4_isKept_146 ic_1 ?_
        refine vv_goto (tgt := 151) hC dX4_isKept_147 rfl ?_
        exact vv_zret hC hM dX4_isKept_151 isB_1 h
      · replace h := h.2 c11
        refine vv_lload_n hC dX4_isKept_90 rfl 1 rfl ?_
        refine vv_ldc2 hC q1866 dX4_isKept_91 ?_
        refine vv_lcmp hC dX4_isKept_94 ?_
        refine vv_if_eq (tgt := 146) hC dX4_isKept_95 rfl (fun c12 => ?_) (fun c12 => ?_)
        · replace h := h.1 c12
          refine vv_iconst hC dX4_isKept_146 ic_1 ?_
          refine vv_goto (tgt := 151) hC dX4_isKept_147 rfl ?_
          exact vv_zret hC hM dX4_isKept_151 isB_1 h
        · replace h := h.2 c12
          refine vv_lload_n hC dX4_isKept_98 rfl 1 rfl ?_
          refine vv_ldc2 hC q1867 dX4_isKept_99 ?_
          refine vv_lcmp hC dX4_isKept_102 ?_
          refine vv_if_eq (tgt := 146) hC dX4_isKept_103 rfl (fun c13 => ?_) (fun c13 => ?_)
          · replace h := h.1 c13
            refine vv_iconst hC dX4_isKept_146 ic_1 ?_
            refine vv_goto (tgt := 151) hC dX4_isKept_147 rfl ?_
            exact vv_zret hC hM dX4_isKept_151 isB_1 h
          · replace h := h.2 c13
            refine vv_lload_n hC dX4_isKept_106 rfl 1 rfl ?_
            refine vv_ldc2 hC q1868 dX4_isKept_107 ?_
            refine vv_lcmp hC dX4_isKept_110 ?_
            refine vv_if_eq (tgt := 146) hC dX4_isKept_111 rfl (fun c14 => ?_) (fun c14 => ?_)
            · replace h := h.1 c14
              refine vv_iconst hC dX4_isKept_146 ic_1 ?_
              refine vv_goto (tgt := 151) hC dX4_isKept_147 rfl ?_
              exact vv_zret hC hM dX4_isKept_151 isB_1 h
            · replace h := h.2 c14
              refine vv_lload_n hC dX4_isKept_114 rfl 1 rfl ?_
              refine vv_ldc2 hC q1869 dX4_isKept_115 ?_
              refine vv_lcmp hC dX4_isKept_118 ?_
              refine vv_if_eq (tgt := 146) hC dX4_isKept_119 rfl (fun c15 => ?_) (fun c15 => ?_)
              · replace h := h.1 c15
                refine vv_iconst hC dX4_isKept_146 ic_1 ?_
                refine vv_goto (tgt := 151) hC dX4_isKept_147 rfl ?_
                exact vv_zret hC hM dX4_isKept_151 isB_1 h
              · replace h := h.2 c15
                refine vv_lload_n hC dX4_isKept_122 rfl 1 rfl ?_
                refine vv_ldc2 hC q1870 dX4_isKept_123 ?_
                refine vv_lcmp hC dX4_isKept_126 ?_
                refine vv_if_eq (tgt := 146) hC dX4_isKept_127 rfl (fun c16 => ?_) (fun c16 => ?_)
                · replace h := h.1 c16
                  refine vv_iconst hC dX4_isKept_146 ic_1 ?_
                  refine vv_goto (tgt := 151) hC dX4_isKept_147 rfl ?_
                  exact vv_zret hC hM dX4_isKept_151 isB_1 h
                · replace h := h.2 c16
                  refine vv_lload_n hC dX4_isKept_130 rfl 1 rfl ?_
                  refine vv_ldc2 hC q1871 dX4_isKept_131 ?_
                  refine vv_lcmp hC dX4_isKept_134 ?_
                  refine vv_if_eq (tgt := 146) hC dX4_isKept_135 rfl (fun c17 => ?_) (fun c17 => ?_)
                  · replace h := h.1 c17
                    refine vv_iconst hC dX4_isKept_146 ic_1 ?_
                    refine vv_goto (tgt := 151) hC dX4_isKept_147 rfl ?_
                    exact vv_zret hC hM dX4_isKept_151 isB_1 h
                  · replace h := h.2 c17
                    refine vv_lload_n hC dX4_isKept_138 rfl 1 rfl ?_
                    refine vv_ldc2 hC q1872 dX4_isKept_139 ?_
                    refine vv_lcmp hC dX4_isKept_142 ?_
                    refine vv_if_ne (tgt := 150) hC dX4_isKept_143 rfl (fun c18 => ?_) (fun c18 => ?_)
                    · replace h := h.1 c18
                      refine vv_iconst hC dX4_isKept_150 ic_0 ?_
                      exact vv_zret hC hM dX4_isKept_151 isB_0 h
                    · replace h := h.2 c18
                      refine vv_iconst hC dX4_isKept_146 ic_1 ?_
                      refine vv_goto (tgt := 151) hC dX4_isKept_147 rfl ?_
                      exact vv_zret hC hM dX4_isKept_151 isB_1 h
  have L72 : ∀ (v0 : Int64) (μ : WS), w_X4_isKept_72  v0 μ Q → VV C 3 (HPW D ac ad knM Ex (vS C)) (vQ C (QcW D ac ad knM (qI Q)) 0 0 (inLay ad knM)) (μ, ()) 72 [(0, .long v0)] [] := by
    intro  v0 μ h
    unfold w_X4_isKept_72 at h
    refine vv_iconst hC dX4_isKept_72 ic_1 ?_
    refine vv_goto (tgt := 77) hC dX4_isKept_73 rfl ?_
    exact L77  _ _ _ h
  unfold w_X4_isKept at h
  refine vv_lload_n hC dX4_isKept_0 rfl 0 rfl ?_
  refine vv_ldc2 hC q1856 dX4_isKept_1 ?_
  refine vv_lcmp hC dX4_isKept_4 ?_
  refine vv_if_eq (tgt := 72) hC dX4_isKept_5 rfl (fun c1 => ?_) (fun c1 => ?_)
  · replace h := h.1 c1
    exact L72  _ _ h
  · replace h := h.2 c1
    refine vv_lload_n hC dX4_isKept_8 rfl 0 rfl ?_
    refine vv_ldc2 hC q1857 dX4_isKept_9 ?_
    refine vv_lcmp hC dX4_isKept_12 ?_
    refine vv_if_eq (tgt := 72) hC dX4_isKept_13 rfl (fun c2 => ?_) (fun c2 => ?_)
    · replace h := h.1 c2
      exact L72  _ _ h
    · replace h := h.2 c2
      refine vv_lload_n hC dX4_isKept_16 rfl 0 rfl ?_
      refine vv_ldc2 hC q1858 dX4_isKept_17 ?_
      refine vv_lcmp hC dX4_isKept_20 ?_
      refine vv_if_eq (tgt := 72) hC dX4_isKept_21 rfl (fun c3 => ?_) (fun c3 => ?_)
      · replace h := h.1 c3
        exact L72  _ _ h
      · replace h := h.2 c3
        refine vv_lload_n hC dX4_isKept_24 rfl 0 rfl ?_
        refine vv_ldc2 hC q1859 dX4_isKept_25 ?_
        refine vv_lcmp hC dX4_isKept_28 ?_
        refine vv_if_eq (tgt := 72) hC dX4_isKept_29 rfl (fun c4 => ?_) (fun c4 => ?_)
        · replace h := h.1 c4
          exact L72  _ _ h
        · replace h := h.2 c4
          refine vv_lload_n hC dX4_isKept_32 rfl 0 rfl ?_
          refine vv_ldc2 hC q1860 dX4_isKept_33 ?_
          refine vv_lcmp hC dX4_isKept_36 ?_
          refine vv_if_eq (tgt := 72) hC dX4_isKept_37 rfl (fun c5 => ?_) (fun c5 => ?_)
          · replace h := h.1 c5
            exact L72  _ _ h
          · replace h := h.2 c5
            refine vv_lload_n hC dX4_isKept_40 rfl 0 rfl ?_
            refine vv_ldc2 hC q1861 dX4_isKept_41 ?_
            refine vv_lcmp hC dX4_isKept_44 ?_
            refine vv_if_eq (tgt := 72) hC dX4_isKept_45 rfl (fun c6 => ?_) (fun c6 => ?_)
            · replace h := h.1 c6
              exact L72  _ _ h
            · replace h := h.2 c6
              refine vv_lload_n hC dX4_isKept_48 rfl 0 rfl ?_
              refine vv_ldc2 hC q1862 dX4_isKept_49 ?_
              refine vv_lcmp hC dX4_isKept_52 ?_
              refine vv_if_eq (tgt := 72) hC dX4_isKept_53 rfl (fun c7 => ?_) (fun c7 => ?_)
              · replace h := h.1 c7
                exact L72  _ _ h
              · replace h := h.2 c7
                refine vv_lload_n hC dX4_isKept_56 rfl 0 rfl ?_
                refine vv_ldc2 hC q1863 dX4_isKept_57 ?_
                refine vv_lcmp hC dX4_isKept_60 ?_
                refine vv_if_eq (tgt := 72) hC dX4_isKept_61 rfl (fun c8 => ?_) (fun c8 => ?_)
                · replace h := h.1 c8
                  exact L72  _ _ h
                · replace h := h.2 c8
                  refine vv_lload_n hC dX4_isKept_64 rfl 0 rfl ?_
                  refine vv_ldc2 hC q1864 dX4_isKept_65 ?_
                  refine vv_lcmp hC dX4_isKept_68 ?_
                  refine vv_if_ne (tgt := 76) hC dX4_isKept_69 rfl (fun c9 => ?_) (fun c9 => ?_)
                  · replace h := h.1 c9
                    refine vv_iconst hC dX4_isKept_76 ic_0 ?_
                    exact L77  _ _ _ h
                  · replace h := h.2 c9
                    exact L72  _ _ h
def w_X4_isDigit (v0 : Int32) (μ : WS) (Q : Int32 → WS → Prop) : Prop := ((v0 < 48) → Q 0 μ) ∧ ((¬ v0 < 48) → ((57 < v0) → Q 0 μ) ∧ ((¬ 57 < v0) → Q 1 μ))
abbrev rm_X4_isDigit : Room := { frames := 0, cells := 0, slots := 0, locals := 0 }
theorem mf_X4_isDigit : MFact yX4_isDigit 1 rm_X4_isDigit := ⟨by decide +kernel, rfl, rfl⟩
set_option maxHeartbeats 4000000 in
theorem met_X4_isDigit (l : Launch) (D : va_G) (ac : Nat → ClassId) (ad : Nat → Nat) (Ex : Heap → Prop) (hLay : LayOk ad knM) (hEx : ExOk ad knM Ex) (v0 : Int32) (μ : WS) (Q : Int32 → WS → Prop) (h : w_X4_isDigit v0 μ Q) : CMet l yX4_isDigit cX4_isDigit 1 (some .boolean) rm_X4_isDigit D ac ad knM Ex [.int v0] μ (qI Q) := by
  refine vv_met (lv := [(0, .int v0)]) (by decide) hLay hEx (Nat.le_of_ble_eq_true rfl) rfl ⟨rfl, rfl⟩ (fun C hC hK hRm hLl hR hM => ?_)
  subst hLl
  have hRo : RoomOk (HPW D ac ad knM Ex (vS C)) (vR C) := HPW.room
  unfold w_X4_isDigit at h
  refine vv_iload_n hC dX4_isDigit_0 rfl 0 rfl ?_
  refine vv_bipush hC dX4_isDigit_1 bp_48 ?_
  refine vv_icmp_lt (tgt := 16) hC dX4_isDigit_3 rfl (fun c1 => ?_) (fun c1 => ?_)
  · replace h := h.1 c1
    refine vv_iconst hC dX4_isDigit_16 ic_0 ?_
    exact vv_zret hC hM dX4_isDigit_17 isB_0 h
  · replace h := h.2 c1
    refine vv_iload_n hC dX4_isDigit_6 rfl 0 rfl ?_
    refine vv_bipush hC dX4_isDigit_7 bp_57 ?_
    refine vv_icmp_gt (tgt := 16) hC dX4_isDigit_9 rfl (fun c2 => ?_) (fun c2 => ?_)
    · replace h := h.1 c2
      refine vv_iconst hC dX4_isDigit_16 ic_0 ?_
      exact vv_zret hC hM dX4_isDigit_17 isB_0 h
    · replace h := h.2 c2
      refine vv_iconst hC dX4_isDigit_12 ic_1 ?_
      refine vv_goto (tgt := 17) hC dX4_isDigit_13 rfl ?_
      exact vv_zret hC hM dX4_isDigit_17 isB_1 h
def w_X4_isSign (v0 : Int32) (μ : WS) (Q : Int32 → WS → Prop) : Prop := ((v0 = 59) → Q 1 μ) ∧ ((¬ v0 = 59) → ((v0 = 40) → Q 1 μ) ∧ ((¬ v0 = 40) → ((v0 = 41) → Q 1 μ) ∧ ((¬ v0 = 41) → ((v0 = 60) → Q 1 μ) ∧ ((¬ v0 = 60) → ((v0 = 62) → Q 1 μ) ∧ ((¬ v0 = 62) → ((v0 = 61) → Q 1 μ) ∧ ((¬ v0 = 61) → ((v0 = 43) → Q 1 μ) ∧ ((¬ v0 = 43) → ((v0 = 45) → Q 1 μ) ∧ ((¬ v0 = 45) → ((v0 = 42) → Q 1 μ) ∧ ((¬ v0 = 42) → ((v0 = 47) → Q 1 μ) ∧ ((¬ v0 = 47) → ((¬ v0 = 37) → Q 0 μ) ∧ ((v0 = 37) → Q 1 μ)))))))))))
abbrev rm_X4_isSign : Room := { frames := 0, cells := 0, slots := 0, locals := 0 }
theorem mf_X4_isSign : MFact yX4_isSign 1 rm_X4_isSign := ⟨by decide +kernel, rfl, rfl⟩
set_option maxHeartbeats 4000000 in
theorem met_X4_isSign (l : Launch) (D : va_G) (ac : Nat → ClassId) (ad : Nat → Nat) (Ex : Heap → Prop) (hLay : LayOk ad knM) (hEx : ExOk ad knM Ex) (v0 : Int32) (μ : WS) (Q : Int32 → WS → Prop) (h : w_X4_isSign v0 μ Q) : CMet l yX4_isSign cX4_isSign 1 (some .boolean) rm_X4_isSign D ac ad knM Ex [.int v0] μ (qI Q) := by
  refine vv_met (lv := [(0, .int v0)]) (by decide) hLay hEx (Nat.le_of_ble_eq_true rfl) rfl ⟨rfl, rfl⟩ (fun C hC hK hRm hLl hR hM => ?_)
  subst hLl
  have hRo : RoomOk (HPW D ac ad knM Ex (vS C)) (vR C) := HPW.room
  unfold w_X4_isSign at h
  refine vv_iload_n hC dX4_isSign_0 rfl 0 rfl ?_
  refine vv_bipush hC dX4_isSign_1 bp_59 ?_
  refine vv_icmp_eq (tgt := 66) hC dX4_isSign_3 rfl (fun c1 => ?_) (fun c1 => ?_)
  · replace h := h.1 c1
    refine vv_iconst hC dX4_isSign_66 ic_1 ?_
    refine vv_goto (tgt := 71) hC dX4_isSign_67 rfl ?_
    exact vv_zret hC hM dX4_isSign_71 isB_1 h
  · replace h := h.2 c1
    refine vv_iload_n hC dX4_isSign_6 rfl 0 rfl ?_
    refine vv_bipush hC dX4_isSign_7 bp_40 ?_
    refine vv_icmp_eq (tgt := 66) hC dX4_isSign_9 rfl (fun c2 => ?_) (fun c2 => ?_)
    · replace h := h.1 c2
      refine vv_iconst hC dX4_isSign_66 ic_1 ?_
      refine vv_goto (tgt := 71) hC dX4_isSign_67 rfl ?_
      exact vv_zret hC hM dX4_isSign_71 isB_1 h
    · replace h := h.2 c2
      refine vv_iload_n hC dX4_isSign_12 rfl 0 rfl ?_
      refine vv_bipush hC dX4_isSign_13 bp_41 ?_
      refine vv_icmp_eq (tgt := 66) hC dX4_isSign_15 rfl (fun c3 => ?_) (fun c3 => ?_)
      · replace h := h.1 c3
        refine vv_iconst hC dX4_isSign_66 ic_1 ?_
        refine vv_goto (tgt := 71) hC dX4_isSign_67 rfl ?_
        exact vv_zret hC hM dX4_isSign_71 isB_1 h
      · replace h := h.2 c3
        refine vv_iload_n hC dX4_isSign_18 rfl 0 rfl ?_
        refine vv_bipush hC dX4_isSign_19 bp_60 ?_
        refine vv_icmp_eq (tgt := 66) hC dX4_isSign_21 rfl (fun c4 => ?_) (fun c4 => ?_)
        · replace h := h.1 c4
          refine vv_iconst hC dX4_isSign_66 ic_1 ?_
          refine vv_goto (tgt := 71) hC dX4_isSign_67 rfl ?_
          exact vv_zret hC hM dX4_isSign_71 isB_1 h
        · replace h := h.2 c4
          refine vv_iload_n hC dX4_isSign_24 rfl 0 rfl ?_
          refine vv_bipush hC dX4_isSign_25 bp_62 ?_
          refine vv_icmp_eq (tgt := 66) hC dX4_isSign_27 rfl (fun c5 => ?_) (fun c5 => ?_)
          · replace h := h.1 c5
            refine vv_iconst hC dX4_isSign_66 ic_1 ?_
            refine vv_goto (tgt := 71) hC dX4_isSign_67 rfl ?_
            exact vv_zret hC hM dX4_isSign_71 isB_1 h
          · replace h := h.2 c5
            refine vv_iload_n hC dX4_isSign_30 rfl 0 rfl ?_
            refine vv_bipush hC dX4_isSign_31 bp_61 ?_
            refine vv_icmp_eq (tgt := 66) hC dX4_isSign_33 rfl (fun c6 => ?_) (fun c6 => ?_)
            · replace h := h.1 c6
              refine vv_iconst hC dX4_isSign_66 ic_1 ?_
              refine vv_goto (tgt := 71) hC dX4_isSign_67 rfl ?_
              exact vv_zret hC hM dX4_isSign_71 isB_1 h
            · replace h := h.2 c6
              refine vv_iload_n hC dX4_isSign_36 rfl 0 rfl ?_
              refine vv_bipush hC dX4_isSign_37 bp_43 ?_
              refine vv_icmp_eq (tgt := 66) hC dX4_isSign_39 rfl (fun c7 => ?_) (fun c7 => ?_)
              · replace h := h.1 c7
                refine vv_iconst hC dX4_isSign_66 ic_1 ?_
                refine vv_goto (tgt := 71) hC dX4_isSign_67 rfl ?_
                exact vv_zret hC hM dX4_isSign_71 isB_1 h
              · replace h := h.2 c7
                refine vv_iload_n hC dX4_isSign_42 rfl 0 rfl ?_
                refine vv_bipush hC dX4_isSign_43 bp_45 ?_
                refine vv_icmp_eq (tgt := 66) hC dX4_isSign_45 rfl (fun c8 => ?_) (fun c8 => ?_)
                · replace h := h.1 c8
                  refine vv_iconst hC dX4_isSign_66 ic_1 ?_
                  refine vv_goto (tgt := 71) hC dX4_isSign_67 rfl ?_
                  exact vv_zret hC hM dX4_isSign_71 isB_1 h
                · replace h := h.2 c8
                  refine vv_iload_n hC dX4_isSign_48 rfl 0 rfl ?_
                  refine vv_bipush hC dX4_isSign_49 bp_42 ?_
                  refine vv_icmp_eq (tgt := 66) hC dX4_isSign_51 rfl (fun c9 => ?_) (fun c9 => ?_)
                  · replace h := h.1 c9
                    refine vv_iconst hC dX4_isSign_66 ic_1 ?_
                    refine vv_goto (tgt := 71) hC dX4_isSign_67 rfl ?_
                    exact vv_zret hC hM dX4_isSign_71 isB_1 h
                  · replace h := h.2 c9
                    refine vv_iload_n hC dX4_isSign_54 rfl 0 rfl ?_
                    refine vv_bipush hC dX4_isSign_55 bp_47 ?_
                    refine vv_icmp_eq (tgt := 66) hC dX4_isSign_57 rfl (fun c10 => ?_) (fun c10 => ?_)
                    · replace h := h.1 c10
                      refine vv_iconst hC dX4_isSign_66 ic_1 ?_
                      refine vv_goto (tgt := 71) hC dX4_isSign_67 rfl ?_
                      exact vv_zret hC hM dX4_isSign_71 isB_1 h
                    · replace h := h.2 c10
                      refine vv_iload_n hC dX4_isSign_60 rfl 0 rfl ?_
                      refine vv_bipush hC dX4_isSign_61 bp_37 ?_
                      refine vv_icmp_ne (tgt := 70) hC dX4_isSign_63 rfl (fun c11 => ?_) (fun c11 => ?_)
                      · replace h := h.1 c11
                        refine vv_iconst hC dX4_isSign_70 ic_0 ?_
                        exact vv_zret hC hM dX4_isSign_71 isB_0 h
                      · replace h := h.2 c11
                        refine vv_iconst hC dX4_isSign_66 ic_1 ?_
                        refine vv_goto (tgt := 71) hC dX4_isSign_67 rfl ?_
                        exact vv_zret hC hM dX4_isSign_71 isB_1 h
def w_X4_goOn_309 (P259 : WS → Prop) (μ : WS) (Q : WS → Prop) : Prop := (∀ μ68 : WS, μ68 = wset μ 0 7 ((μ.1 0 7) + 1) → P259 μ68)
def w_X4_goOn_259b (P259 : WS → Prop) (μ : WS) (Q : WS → Prop) : Prop := (w_X4_sign (μ.1 0 7) μ (fun r51 μ50 => (w_X4_isDigit r51 μ50 (fun r53 μ52 => ((r53 = 0) → ((4 < (μ52.1 0 7) - (μ52.1 0 6)) → (∀ μ56 : WS, μ56 = wset μ52 0 8 1 → Q μ56)) ∧ ((¬ 4 < (μ52.1 0 7) - (μ52.1 0 6)) → (w_X4_sign (μ52.1 0 7) μ52 (fun r58 μ57 => (w_X4_isLetter r58 μ57 (fun r60 μ59 => ((r60 = 0) → (∀ μ62 : WS, μ62 = wset μ59 0 8 4 → Q μ62)) ∧ ((¬ r60 = 0) → (∀ μ63 : WS, μ63 = wset μ59 0 8 1 → Q μ63)))))))) ∧ ((¬ r53 = 0) → ((4 ≤ (μ52.1 0 7) - (μ52.1 0 6)) → w_X4_goOn_309 P259 μ52 Q) ∧ ((¬ 4 ≤ (μ52.1 0 7) - (μ52.1 0 6)) → (w_X4_sign (μ52.1 0 7) μ52 (fun r66 μ65 => (∀ μ67 : WS, μ67 = wset μ65 0 9 (((10 * (μ52.1 0 9)) + r66) - 48) → w_X4_goOn_309 P259 μ67 Q)))))))))
def w_X4_goOn_259 (μ : WS) (Q : WS → Prop) : Prop := ∀ P259 : WS → Prop, (∀ (μ : WS), w_X4_goOn_259b  P259  μ Q → P259  μ) → P259  μ
def w_X4_goOn_199 (μ : WS) (Q : WS → Prop) : Prop := (((μ.1 0 7) - (μ.1 0 6) ≤ 8) → (w_X4_isKept (μ.2.1 0 10) μ (fun r45 μ44 => ((r45 = 0) → (∀ μ47 : WS, μ47 = wset μ44 0 8 2 → Q μ47)) ∧ ((¬ r45 = 0) → (∀ μ48 : WS, μ48 = wset μ44 0 8 3 → Q μ48))))) ∧ ((¬ (μ.1 0 7) - (μ.1 0 6) ≤ 8) → (∀ μ49 : WS, μ49 = wset μ 0 8 1 → Q μ49))
def w_X4_goOn_156b (P156 : Int32 → WS → Prop) (v2 : Int32) (μ : WS) (Q : WS → Prop) : Prop := ((μ.1 0 7 ≤ v2) → w_X4_goOn_199 μ Q) ∧ ((¬ μ.1 0 7 ≤ v2) → (((μ.1 0 6) + 8 ≤ v2) → w_X4_goOn_199 μ Q) ∧ ((¬ (μ.1 0 6) + 8 ≤ v2) → (w_X4_sign v2 μ (fun r41 μ40 => (∀ μ42 : WS, μ42 = wsetL μ40 0 10 (((μ.2.1 0 10) <<< ((8 : Int32).toInt64 &&& 63)) ||| r41.toInt64) → P156 (v2 + 1) μ42)))))
def w_X4_goOn_156 (v2 : Int32) (μ : WS) (Q : WS → Prop) : Prop := ∀ P156 : Int32 → WS → Prop, (∀ (v2 : Int32) (μ : WS), w_X4_goOn_156b  P156 v2 μ Q → P156 v2 μ) → P156 v2 μ
def w_X4_goOn_119b (P119 : WS → Prop) (μ : WS) (Q : WS → Prop) : Prop := (w_X4_sign (μ.1 0 7) μ (fun r31 μ30 => (w_X4_isLetter r31 μ30 (fun r33 μ32 => ((r33 = 0) → (∀ μ35 : WS, μ35 = wsetL μ32 0 10 0 → (∀ x36 : Int32, x36 = μ35.1 0 6 → w_X4_goOn_156 x36 μ35 Q))) ∧ ((¬ r33 = 0) → (∀ μ37 : WS, μ37 = wset μ32 0 7 ((μ32.1 0 7) + 1) → P119 μ37))))))
def w_X4_goOn_119 (μ : WS) (Q : WS → Prop) : Prop := ∀ P119 : WS → Prop, (∀ (μ : WS), w_X4_goOn_119b  P119  μ Q → P119  μ) → P119  μ
def w_X4_goOn_58 (μ : WS) (Q : WS → Prop) : Prop := (w_X4_sign (μ.1 0 6) μ (fun r11 μ10 => (∀ μ12 : WS, μ12 = wset μ10 0 7 ((μ10.1 0 6) + 1) → ((μ12.1 0 6 < μ12.1 0 3) → (w_X4_isLetter r11 μ12 (fun r15 μ14 => ((r15 = 0) → (w_X4_isDigit r11 μ14 (fun r18 μ17 => ((r18 = 0) → (w_X4_isSign r11 μ17 (fun r21 μ20 => ((r21 = 0) → (∀ μ23 : WS, μ23 = wset μ20 0 8 1 → Q μ23)) ∧ ((¬ r21 = 0) → (∀ μ24 : WS, μ24 = wset μ20 0 8 5 → Q μ24))))) ∧ ((¬ r18 = 0) → (∀ μ25 : WS, μ25 = wset μ17 0 9 0 → (∀ μ26 : WS, μ26 = wset μ25 0 7 (μ25.1 0 6) → w_X4_goOn_259 μ26 Q)))))) ∧ ((¬ r15 = 0) → w_X4_goOn_119 μ14 Q)))) ∧ ((¬ μ12.1 0 6 < μ12.1 0 3) → (∀ μ27 : WS, μ27 = wset μ12 0 8 0 → (∀ μ28 : WS, μ28 = wset μ27 0 6 (μ27.1 0 3) → (∀ μ29 : WS, μ29 = wset μ28 0 7 (μ28.1 0 3) → Q μ29)))))))
def w_X4_goOn_45 (P8 : WS → Prop) (μ : WS) (Q : WS → Prop) : Prop := (∀ μ9 : WS, μ9 = wset μ 0 6 ((μ.1 0 6) + 1) → P8 μ9)
def w_X4_goOn_8b (P8 : WS → Prop) (μ : WS) (Q : WS → Prop) : Prop := ((μ.1 0 3 ≤ μ.1 0 6) → w_X4_goOn_58 μ Q) ∧ ((¬ μ.1 0 3 ≤ μ.1 0 6) → (w_X4_sign (μ.1 0 6) μ (fun r4 μ3 => ((r4 = 32) → w_X4_goOn_45 P8 μ3 Q) ∧ ((¬ r4 = 32) → (w_X4_sign (μ3.1 0 6) μ3 (fun r7 μ6 => ((¬ r7 = 10) → w_X4_goOn_58 μ6 Q) ∧ ((r7 = 10) → w_X4_goOn_45 P8 μ6 Q)))))))
def w_X4_goOn_8 (μ : WS) (Q : WS → Prop) : Prop := ∀ P8 : WS → Prop, (∀ (μ : WS), w_X4_goOn_8b  P8  μ Q → P8  μ) → P8  μ
def w_X4_goOn (μ : WS) (Q : WS → Prop) : Prop := (∀ μ1 : WS, μ1 = wset μ 0 6 (μ.1 0 7) → w_X4_goOn_8 μ1 Q)
abbrev rm_X4_goOn : Room := { frames := 1, cells := 0, slots := 0, locals := 22 }
theorem mf_X4_goOn : MFact yX4_goOn 0 rm_X4_goOn := ⟨by decide +kernel, rfl, rfl⟩
set_option maxHeartbeats 4000000 in
theorem met_X4_goOn (l : Launch) (D : va_G) (ac : Nat → ClassId) (ad : Nat → Nat) (Ex : Heap → Prop) (hLay : LayOk ad knM) (hEx : ExOk ad knM Ex) (μ : WS) (Q : WS → Prop) (h : w_X4_goOn  μ Q) : CMet l yX4_goOn cX4_goOn 3 none rm_X4_goOn D ac ad knM Ex [.ref (ad 0)] μ (qV Q) := by
  refine vv_met (lv := [(0, .ref (ad 0))]) (by decide) hLay hEx (Nat.le_of_ble_eq_true rfl) rfl ⟨rfl, rfl⟩ (fun C hC hK hRm hLl hR hM => ?_)
  subst hLl
  have hRo : RoomOk (HPW D ac ad knM Ex (vS C)) (vR C) := HPW.room
  have L309 : ∀ (P259 : WS → Prop) (h259 : ∀ (μ : WS), P259  μ → VV C 3 (HPW D ac ad knM Ex (vS C)) (vQ C (QcW D ac ad knM (qV Q)) 0 0 (inLay ad knM)) (μ, ()) 259 [(0, .ref (ad 0))] []) (μ : WS), w_X4_goOn_309 P259  μ Q → VV C 3 (HPW D ac ad knM Ex (vS C)) (vQ C (QcW D ac ad knM (qV Q)) 0 0 (inLay ad knM)) (μ, ()) 309 [(0, .ref (ad 0))] [] := by
    intro P259 h259  μ h
    unfold w_X4_goOn_309 at h
    refine vv_aload_n hC dX4_goOn_309 rfl 0 rfl ?_
    refine vv_dup hC dX4_goOn_310 rfl ?_
    refine vv_getf hC hR hK fa4_193 0 lm_0 (fm_7 ad _ _ _) dX4_goOn_311 ?_
    refine vv_iconst hC dX4_goOn_314 ic_1 ?_
    refine vv_iadd hC dX4_goOn_315 ?_
    refine vv_puti hC hR hK fa4_193 0 lm_0 fn_7 rfl rfl dX4_goOn_316 ?_
    refine vv_st (fun y e => ?_)
    obtain ⟨μ68, _⟩ := y
    have eμ68 := congrArg Prod.fst e
    clear e
    replace h := h μ68 eμ68
    refine vv_goto (tgt := 259) hC dX4_goOn_319 rfl ?_
    exact h259 _ h
  have L259 : ∀ (μ : WS), w_X4_goOn_259   μ Q → VV C 3 (HPW D ac ad knM Ex (vS C)) (vQ C (QcW D ac ad knM (qV Q)) 0 0 (inLay ad knM)) (μ, ()) 259 [(0, .ref (ad 0))] [] := by
    intro   μ h
    refine h (fun μ => VV C 3 (HPW D ac ad knM Ex (vS C)) (vQ C (QcW D ac ad knM (qV Q)) 0 0 (inLay ad knM)) (μ, ()) 259 [(0, .ref (ad 0))] []) ?_
    clear h; intro  μ h
    have h259 : ∀ (μ : WS), (fun  (μ : WS) => VV C 3 (HPW D ac ad knM Ex (vS C)) (vQ C (QcW D ac ad knM (qV Q)) 0 0 (inLay ad knM)) (μ, ()) 259 [(0, .ref (ad 0))] [])  μ → VV C 3 (HPW D ac ad knM Ex (vS C)) (vQ C (QcW D ac ad knM (qV Q)) 0 0 (inLay ad knM)) (μ, ()) 259 [(0, .ref (ad 0))] [] := fun  _ h => h
    unfold w_X4_goOn_259b at h
    refine vv_aload_n hC dX4_goOn_259 rfl 0 rfl ?_
    refine vv_aload_n hC dX4_goOn_260 rfl 0 rfl ?_
    refine vv_getf hC hR hK fa4_193 0 lm_0 (fm_7 ad _ _ _) dX4_goOn_261 ?_
    refine vv_callVi hC hR hK hRo hRm [.int (μ.1 0 7)] [] (met_X4_sign (vL C) D ac ad Ex hLay hEx (μ.1 0 7) μ _ h) gw4_199 mf_X4_sign rfl lm_0 rfl rfl rfl rfl dX4_goOn_264 (fun r51 μ50 h => ?_)
    refine vv_callSi hC hR hK hRo hRm [.int r51] [] (met_X4_isDigit (vL C) D ac ad Ex hLay hEx r51 μ50 _ h) gw4_218 mf_X4_isDigit rfl rfl rfl dX4_goOn_267 (fun r53 μ52 h => ?_)
    refine vv_if_eq (tgt := 322) hC dX4_goOn_270 rfl (fun c54 => ?_) (fun c54 => ?_)
    · replace h := h.1 c54
      refine vv_aload_n hC dX4_goOn_322 rfl 0 rfl ?_
      refine vv_aload_n hC dX4_goOn_323 rfl 0 rfl ?_
      refine vv_getf hC hR hK fa4_193 0 lm_0 (fm_7 ad _ _ _) dX4_goOn_324 ?_
      refine vv_aload_n hC dX4_goOn_327 rfl 0 rfl ?_
      refine vv_getf hC hR hK fa4_196 0 lm_0 (fm_6 ad _ _ _) dX4_goOn_328 ?_
      refine vv_isub hC dX4_goOn_331 ?_
      refine vv_iconst hC dX4_goOn_332 ic_4 ?_
      refine vv_icmp_gt (tgt := 350) hC dX4_goOn_333 rfl (fun c55 => ?_) (fun c55 => ?_)
      · replace h := h.1 c55
        refine vv_iconst hC dX4_goOn_350 ic_1 ?_
        refine vv_goto (tgt := 355) hC dX4_goOn_351 rfl ?_
        refine vv_puti hC hR hK fa4_203 0 lm_0 fn_8 rfl rfl dX4_goOn_355 ?_
        refine vv_st (fun y e => ?_)
        obtain ⟨μ56, _⟩ := y
        have eμ56 := congrArg Prod.fst e
        clear e
        replace h := h μ56 eμ56
        refine vv_goto (tgt := 377) hC dX4_goOn_358 rfl ?_
        exact vv_vret hC hM dX4_goOn_377 h
      · replace h := h.2 c55
        refine vv_aload_n hC dX4_goOn_336 rfl 0 rfl ?_
        refine vv_aload_n hC dX4_goOn_337 rfl 0 rfl ?_
        refine vv_getf hC hR hK fa4_193 0 lm_0 (fm_7 ad _ _ _) dX4_goOn_338 ?_
        refine vv_callVi hC hR hK hRo hRm [.int (μ52.1 0 7)] [.ref (ad 0)] (met_X4_sign (vL C) D ac ad Ex hLay hEx (μ52.1 0 7) μ52 _ h) gw4_199 mf_X4_sign rfl lm_0 rfl rfl rfl rfl dX4_goOn_341 (fun r58 μ57 h => ?_)
        refine vv_callSi hC hR hK hRo hRm [.int r58] [.ref (ad 0)] (met_X4_isLetter (vL C) D ac ad Ex hLay hEx r58 μ57 _ h) gw4_206 mf_X4_isLetter rfl rfl rfl dX4_goOn_344 (fun r60 μ59 h => ?_)
        refine vv_if_eq (tgt := 354) hC dX4_goOn_347 rfl (fun c61 => ?_) (fun c61 => ?_)
        · replace h := h.1 c61
          refine vv_iconst hC dX4_goOn_354 ic_4 ?_
          refine vv_puti hC hR hK fa4_203 0 lm_0 fn_8 rfl rfl dX4_goOn_355 ?_
          refine vv_st (fun y e => ?_)
          obtain ⟨μ62, _⟩ := y
          have eμ62 := congrArg Prod.fst e
          clear e
          replace h := h μ62 eμ62
          refine vv_goto (tgt := 377) hC dX4_goOn_358 rfl ?_
          exact vv_vret hC hM dX4_goOn_377 h
        · replace h := h.2 c61
          refine vv_iconst hC dX4_goOn_350 ic_1 ?_
          refine vv_goto (tgt := 355) hC dX4_goOn_351 rfl ?_
          refine vv_puti hC hR hK fa4_203 0 lm_0 fn_8 rfl rfl dX4_goOn_355 ?_
          refine vv_st (fun y e => ?_)
          obtain ⟨μ63, _⟩ := y
          have eμ63 := congrArg Prod.fst e
          clear e
          replace h := h μ63 eμ63
          refine vv_goto (tgt := 377) hC dX4_goOn_358 rfl ?_
          exact vv_vret hC hM dX4_goOn_377 h
    · replace h := h.2 c54
      refine vv_aload_n hC dX4_goOn_273 rfl 0 rfl ?_
      refine vv_getf hC hR hK fa4_193 0 lm_0 (fm_7 ad _ _ _) dX4_goOn_274 ?_
      refine vv_aload_n hC dX4_goOn_277 rfl 0 rfl ?_
      refine vv_getf hC hR hK fa4_196 0 lm_0 (fm_6 ad _ _ _) dX4_goOn_278 ?_
      refine vv_isub hC dX4_goOn_281 ?_
      refine vv_iconst hC dX4_goOn_282 ic_4 ?_
      refine vv_icmp_ge (tgt := 309) hC dX4_goOn_283 rfl (fun c64 => ?_) (fun c64 => ?_)
      · replace h := h.1 c64
        exact L309 _ h259 _ h
      · replace h := h.2 c64
        refine vv_aload_n hC dX4_goOn_286 rfl 0 rfl ?_
        refine vv_bipush hC dX4_goOn_287 bp_10 ?_
        refine vv_aload_n hC dX4_goOn_289 rfl 0 rfl ?_
        refine vv_getf hC hR hK fa4_221 0 lm_0 (fm_9 ad _ _ _) dX4_goOn_290 ?_
        refine vv_imul hC dX4_goOn_293 ?_
        refine vv_aload_n hC dX4_goOn_294 rfl 0 rfl ?_
        refine vv_aload_n hC dX4_goOn_295 rfl 0 rfl ?_
        refine vv_getf hC hR hK fa4_193 0 lm_0 (fm_7 ad _ _ _) dX4_goOn_296 ?_
        refine vv_callVi hC hR hK hRo hRm [.int (μ52.1 0 7)] [.int (10 * (μ52.1 0 9)), .ref (ad 0)] (met_X4_sign (vL C) D ac ad Ex hLay hEx (μ52.1 0 7) μ52 _ h) gw4_199 mf_X4_sign rfl lm_0 rfl rfl rfl rfl dX4_goOn_299 (fun r66 μ65 h => ?_)
        refine vv_iadd hC dX4_goOn_302 ?_
        refine vv_bipush hC dX4_goOn_303 bp_48 ?_
        refine vv_isub hC dX4_goOn_305 ?_
        refine vv_puti hC hR hK fa4_221 0 lm_0 fn_9 rfl rfl dX4_goOn_306 ?_
        refine vv_st (fun y e => ?_)
        obtain ⟨μ67, _⟩ := y
        have eμ67 := congrArg Prod.fst e
        clear e
        replace h := h μ67 eμ67
        exact L309 _ h259 _ h
  have L199 : ∀ (μ : WS), w_X4_goOn_199   μ Q → VV C 3 (HPW D ac ad knM Ex (vS C)) (vQ C (QcW D ac ad knM (qV Q)) 0 0 (inLay ad knM)) (μ, ()) 199 [(0, .ref (ad 0))] [] := by
    intro   μ h
    unfold w_X4_goOn_199 at h
    refine vv_aload_n hC dX4_goOn_199 rfl 0 rfl ?_
    refine vv_aload_n hC dX4_goOn_200 rfl 0 rfl ?_
    refine vv_getf hC hR hK fa4_193 0 lm_0 (fm_7 ad _ _ _) dX4_goOn_201 ?_
    refine vv_aload_n hC dX4_goOn_204 rfl 0 rfl ?_
    refine vv_getf hC hR hK fa4_196 0 lm_0 (fm_6 ad _ _ _) dX4_goOn_205 ?_
    refine vv_isub hC dX4_goOn_208 ?_
    refine vv_bipush hC dX4_goOn_209 bp_8 ?_
    refine vv_icmp_le (tgt := 218) hC dX4_goOn_211 rfl (fun c43 => ?_) (fun c43 => ?_)
    · replace h := h.1 c43
      refine vv_aload_n hC dX4_goOn_218 rfl 0 rfl ?_
      refine vv_getf hC hR hK fa4_210 0 lm_0 (fm_10 ad _ _ _) dX4_goOn_219 ?_
      refine vv_callSi hC hR hK hRo hRm [.long (μ.2.1 0 10)] [.ref (ad 0)] (met_X4_isKept (vL C) D ac ad Ex hLay hEx (μ.2.1 0 10) μ _ h) gw4_214 mf_X4_isKept rfl rfl rfl dX4_goOn_222 (fun r45 μ44 h => ?_)
      refine vv_if_eq (tgt := 232) hC dX4_goOn_225 rfl (fun c46 => ?_) (fun c46 => ?_)
      · replace h := h.1 c46
        refine vv_iconst hC dX4_goOn_232 ic_2 ?_
        refine vv_puti hC hR hK fa4_203 0 lm_0 fn_8 rfl rfl dX4_goOn_233 ?_
        refine vv_st (fun y e => ?_)
        obtain ⟨μ47, _⟩ := y
        have eμ47 := congrArg Prod.fst e
        clear e
        replace h := h μ47 eμ47
        refine vv_goto (tgt := 377) hC dX4_goOn_236 rfl ?_
        exact vv_vret hC hM dX4_goOn_377 h
      · replace h := h.2 c46
        refine vv_iconst hC dX4_goOn_228 ic_3 ?_
        refine vv_goto (tgt := 233) hC dX4_goOn_229 rfl ?_
        refine vv_puti hC hR hK fa4_203 0 lm_0 fn_8 rfl rfl dX4_goOn_233 ?_
        refine vv_st (fun y e => ?_)
        obtain ⟨μ48, _⟩ := y
        have eμ48 := congrArg Prod.fst e
        clear e
        replace h := h μ48 eμ48
        refine vv_goto (tgt := 377) hC dX4_goOn_236 rfl ?_
        exact vv_vret hC hM dX4_goOn_377 h
    · replace h := h.2 c43
      refine vv_iconst hC dX4_goOn_214 ic_1 ?_
      refine vv_goto (tgt := 233) hC dX4_goOn_215 rfl ?_
      refine vv_puti hC hR hK fa4_203 0 lm_0 fn_8 rfl rfl dX4_goOn_233 ?_
      refine vv_st (fun y e => ?_)
      obtain ⟨μ49, _⟩ := y
      have eμ49 := congrArg Prod.fst e
      clear e
      replace h := h μ49 eμ49
      refine vv_goto (tgt := 377) hC dX4_goOn_236 rfl ?_
      exact vv_vret hC hM dX4_goOn_377 h
  have L156 : ∀ (v2 : Int32) (μ : WS), w_X4_goOn_156  v2 μ Q → VV C 3 (HPW D ac ad knM Ex (vS C)) (vQ C (QcW D ac ad knM (qV Q)) 0 0 (inLay ad knM)) (μ, ()) 156 [(0, .ref (ad 0)), (2, .int v2)] [] := by
    intro  v2 μ h
    refine h (fun v2 μ => VV C 3 (HPW D ac ad knM Ex (vS C)) (vQ C (QcW D ac ad knM (qV Q)) 0 0 (inLay ad knM)) (μ, ()) 156 [(0, .ref (ad 0)), (2, .int v2)] []) ?_
    clear h; intro v2 μ h
    have h156 : ∀ (v2 : Int32) (μ : WS), (fun v2 (μ : WS) => VV C 3 (HPW D ac ad knM Ex (vS C)) (vQ C (QcW D ac ad knM (qV Q)) 0 0 (inLay ad knM)) (μ, ()) 156 [(0, .ref (ad 0)), (2, .int v2)] []) v2 μ → VV C 3 (HPW D ac ad knM Ex (vS C)) (vQ C (QcW D ac ad knM (qV Q)) 0 0 (inLay ad knM)) (μ, ()) 156 [(0, .ref (ad 0)), (2, .int v2)] [] := fun _ _ h => h
    unfold w_X4_goOn_156b at h
    refine vv_iload_n hC dX4_goOn_156 rfl 1 rfl ?_
    refine vv_aload_n hC dX4_goOn_157 rfl 0 rfl ?_
    refine vv_getf hC hR hK fa4_193 0 lm_0 (fm_7 ad _ _ _) dX4_goOn_158 ?_
    refine vv_icmp_ge (tgt := 199) hC dX4_goOn_161 rfl (fun c38 => ?_) (fun c38 => ?_)
    · replace h := h.1 c38
      refine vv_lv [0] rfl ?_
      exact L199  _ h
    · replace h := h.2 c38
      refine vv_iload_n hC dX4_goOn_164 rfl 1 rfl ?_
      refine vv_aload_n hC dX4_goOn_165 rfl 0 rfl ?_
      refine vv_getf hC hR hK fa4_196 0 lm_0 (fm_6 ad _ _ _) dX4_goOn_166 ?_
      refine vv_bipush hC dX4_goOn_169 bp_8 ?_
      refine vv_iadd hC dX4_goOn_171 ?_
      refine vv_icmp_ge (tgt := 199) hC dX4_goOn_172 rfl (fun c39 => ?_) (fun c39 => ?_)
      · replace h := h.1 c39
        refine vv_lv [0] rfl ?_
        exact L199  _ h
      · replace h := h.2 c39
        refine vv_aload_n hC dX4_goOn_175 rfl 0 rfl ?_
        refine vv_aload_n hC dX4_goOn_176 rfl 0 rfl ?_
        refine vv_getf hC hR hK fa4_210 0 lm_0 (fm_10 ad _ _ _) dX4_goOn_177 ?_
        refine vv_bipush hC dX4_goOn_180 bp_8 ?_
        refine vv_lshl hC dX4_goOn_182 ?_
        refine vv_aload_n hC dX4_goOn_183 rfl 0 rfl ?_
        refine vv_iload_n hC dX4_goOn_184 rfl 1 rfl ?_
        refine vv_callVi hC hR hK hRo hRm [.int v2] [.long ((μ.2.1 0 10) <<< ((8 : Int32).toInt64 &&& 63)), .ref (ad 0)] (met_X4_sign (vL C) D ac ad Ex hLay hEx v2 μ _ h) gw4_199 mf_X4_sign rfl lm_0 rfl rfl rfl rfl dX4_goOn_185 (fun r41 μ40 h => ?_)
        refine vv_i2l hC dX4_goOn_188 ?_
        refine vv_lor hC dX4_goOn_189 ?_
        refine vv_putl hC hR hK fa4_210 0 lm_0 fn_10 dX4_goOn_190 ?_
        refine vv_st (fun y e => ?_)
        obtain ⟨μ42, _⟩ := y
        have eμ42 := congrArg Prod.fst e
        clear e
        replace h := h μ42 eμ42
        refine vv_iinc (pl := 1) (v := v2 + 1) (lv' := [(2, .int (v2 + 1)), (0, .ref (ad 0))]) hC dX4_goOn_193 rfl rfl (by decide) rfl ?_
        refine vv_goto (tgt := 156) hC dX4_goOn_196 rfl ?_
        refine vv_lv [1, 0] rfl ?_
        exact h156 _ _ h
  have L119 : ∀ (μ : WS), w_X4_goOn_119   μ Q → VV C 3 (HPW D ac ad knM Ex (vS C)) (vQ C (QcW D ac ad knM (qV Q)) 0 0 (inLay ad knM)) (μ, ()) 119 [(0, .ref (ad 0))] [] := by
    intro   μ h
    refine h (fun μ => VV C 3 (HPW D ac ad knM Ex (vS C)) (vQ C (QcW D ac ad knM (qV Q)) 0 0 (inLay ad knM)) (μ, ()) 119 [(0, .ref (ad 0))] []) ?_
    clear h; intro  μ h
    have h119 : ∀ (μ : WS), (fun  (μ : WS) => VV C 3 (HPW D ac ad knM Ex (vS C)) (vQ C (QcW D ac ad knM (qV Q)) 0 0 (inLay ad knM)) (μ, ()) 119 [(0, .ref (ad 0))] [])  μ → VV C 3 (HPW D ac ad knM Ex (vS C)) (vQ C (QcW D ac ad knM (qV Q)) 0 0 (inLay ad knM)) (μ, ()) 119 [(0, .ref (ad 0))] [] := fun  _ h => h
    unfold w_X4_goOn_119b at h
    refine vv_aload_n hC dX4_goOn_119 rfl 0 rfl ?_
    refine vv_aload_n hC dX4_goOn_120 rfl 0 rfl ?_
    refine vv_getf hC hR hK fa4_193 0 lm_0 (fm_7 ad _ _ _) dX4_goOn_121 ?_
    refine vv_callVi hC hR hK hRo hRm [.int (μ.1 0 7)] [] (met_X4_sign (vL C) D ac ad Ex hLay hEx (μ.1 0 7) μ _ h) gw4_199 mf_X4_sign rfl lm_0 rfl rfl rfl rfl dX4_goOn_124 (fun r31 μ30 h => ?_)
    refine vv_callSi hC hR hK hRo hRm [.int r31] [] (met_X4_isLetter (vL C) D ac ad Ex hLay hEx r31 μ30 _ h) gw4_206 mf_X4_isLetter rfl rfl rfl dX4_goOn_127 (fun r33 μ32 h => ?_)
    refine vv_if_eq (tgt := 146) hC dX4_goOn_130 rfl (fun c34 => ?_) (fun c34 => ?_)
    · replace h := h.1 c34
      refine vv_aload_n hC dX4_goOn_146 rfl 0 rfl ?_
      refine vv_lconst hC dX4_goOn_147 rfl ?_
      refine vv_putl hC hR hK fa4_210 0 lm_0 fn_10 dX4_goOn_148 ?_
      refine vv_st (fun y e => ?_)
      obtain ⟨μ35, _⟩ := y
      have eμ35 := congrArg Prod.fst e
      clear e
      replace h := h μ35 eμ35
      refine vv_aload_n hC dX4_goOn_151 rfl 0 rfl ?_
      refine vv_getf hC hR hK fa4_196 0 lm_0 (fm_6 ad _ _ _) dX4_goOn_152 ?_
      refine vv_topi (fun x36 ex36 => ?_)
      replace h := h x36 ex36
      refine vv_istore_n (lv' := [(2, .int x36), (0, .ref (ad 0))]) hC dX4_goOn_155 rfl (by decide) rfl ?_
      refine vv_lv [1, 0] rfl ?_
      exact L156  _ _ h
    · replace h := h.2 c34
      refine vv_aload_n hC dX4_goOn_133 rfl 0 rfl ?_
      refine vv_dup hC dX4_goOn_134 rfl ?_
      refine vv_getf hC hR hK fa4_193 0 lm_0 (fm_7 ad _ _ _) dX4_goOn_135 ?_
      refine vv_iconst hC dX4_goOn_138 ic_1 ?_
      refine vv_iadd hC dX4_goOn_139 ?_
      refine vv_puti hC hR hK fa4_193 0 lm_0 fn_7 rfl rfl dX4_goOn_140 ?_
      refine vv_st (fun y e => ?_)
      obtain ⟨μ37, _⟩ := y
      have eμ37 := congrArg Prod.fst e
      clear e
      replace h := h μ37 eμ37
      refine vv_goto (tgt := 119) hC dX4_goOn_143 rfl ?_
      exact h119 _ h
  have L58 : ∀ (μ : WS), w_X4_goOn_58   μ Q → VV C 3 (HPW D ac ad knM Ex (vS C)) (vQ C (QcW D ac ad knM (qV Q)) 0 0 (inLay ad knM)) (μ, ()) 58 [(0, .ref (ad 0))] [] := by
    intro   μ h
    unfold w_X4_goOn_58 at h
    refine vv_aload_n hC dX4_goOn_58 rfl 0 rfl ?_
    refine vv_aload_n hC dX4_goOn_59 rfl 0 rfl ?_
    refine vv_getf hC hR hK fa4_196 0 lm_0 (fm_6 ad _ _ _) dX4_goOn_60 ?_
    refine vv_callVi hC hR hK hRo hRm [.int (μ.1 0 6)] [] (met_X4_sign (vL C) D ac ad Ex hLay hEx (μ.1 0 6) μ _ h) gw4_199 mf_X4_sign rfl lm_0 rfl rfl rfl rfl dX4_goOn_63 (fun r11 μ10 h => ?_)
    refine vv_istore_n (lv' := [(1, .int r11), (0, .ref (ad 0))]) hC dX4_goOn_66 rfl (by decide) rfl ?_
    refine vv_aload_n hC dX4_goOn_67 rfl 1 rfl ?_
    refine vv_aload_n hC dX4_goOn_68 rfl 1 rfl ?_
    refine vv_getf hC hR hK fa4_196 0 lm_0 (fm_6 ad _ _ _) dX4_goOn_69 ?_
    refine vv_iconst hC dX4_goOn_72 ic_1 ?_
    refine vv_iadd hC dX4_goOn_73 ?_
    refine vv_puti hC hR hK fa4_193 0 lm_0 fn_7 rfl rfl dX4_goOn_74 ?_
    refine vv_st (fun y e => ?_)
    obtain ⟨μ12, _⟩ := y
    have eμ12 := congrArg Prod.fst e
    clear e
    replace h := h μ12 eμ12
    refine vv_aload_n hC dX4_goOn_77 rfl 1 rfl ?_
    refine vv_getf hC hR hK fa4_196 0 lm_0 (fm_6 ad _ _ _) dX4_goOn_78 ?_
    refine vv_aload_n hC dX4_goOn_81 rfl 1 rfl ?_
    refine vv_getf hC hR hK fa4_153 0 lm_0 (fm_3 ad _ _ _) dX4_goOn_82 ?_
    refine vv_icmp_lt (tgt := 112) hC dX4_goOn_85 rfl (fun c13 => ?_) (fun c13 => ?_)
    · replace h := h.1 c13
      refine vv_iload_n hC dX4_goOn_112 rfl 0 rfl ?_
      refine vv_callSi hC hR hK hRo hRm [.int r11] [] (met_X4_isLetter (vL C) D ac ad Ex hLay hEx r11 μ12 _ h) gw4_206 mf_X4_isLetter rfl rfl rfl dX4_goOn_113 (fun r15 μ14 h => ?_)
      refine vv_if_eq (tgt := 239) hC dX4_goOn_116 rfl (fun c16 => ?_) (fun c16 => ?_)
      · replace h := h.1 c16
        refine vv_iload_n hC dX4_goOn_239 rfl 0 rfl ?_
        refine vv_callSi hC hR hK hRo hRm [.int r11] [] (met_X4_isDigit (vL C) D ac ad Ex hLay hEx r11 μ14 _ h) gw4_218 mf_X4_isDigit rfl rfl rfl dX4_goOn_240 (fun r18 μ17 h => ?_)
        refine vv_if_eq (tgt := 361) hC dX4_goOn_243 rfl (fun c19 => ?_) (fun c19 => ?_)
        · replace h := h.1 c19
          refine vv_aload_n hC dX4_goOn_361 rfl 1 rfl ?_
          refine vv_iload_n hC dX4_goOn_362 rfl 0 rfl ?_
          refine vv_callSi hC hR hK hRo hRm [.int r11] [.ref (ad 0)] (met_X4_isSign (vL C) D ac ad Ex hLay hEx r11 μ17 _ h) gw4_224 mf_X4_isSign rfl rfl rfl dX4_goOn_363 (fun r21 μ20 h => ?_)
          refine vv_if_eq (tgt := 373) hC dX4_goOn_366 rfl (fun c22 => ?_) (fun c22 => ?_)
          · replace h := h.1 c22
            refine vv_iconst hC dX4_goOn_373 ic_1 ?_
            refine vv_puti hC hR hK fa4_203 0 lm_0 fn_8 rfl rfl dX4_goOn_374 ?_
            refine vv_st (fun y e => ?_)
            obtain ⟨μ23, _⟩ := y
            have eμ23 := congrArg Prod.fst e
            clear e
            replace h := h μ23 eμ23
            exact vv_vret hC hM dX4_goOn_377 h
          · replace h := h.2 c22
            refine vv_iconst hC dX4_goOn_369 ic_5 ?_
            refine vv_goto (tgt := 374) hC dX4_goOn_370 rfl ?_
            refine vv_puti hC hR hK fa4_203 0 lm_0 fn_8 rfl rfl dX4_goOn_374 ?_
            refine vv_st (fun y e => ?_)
            obtain ⟨μ24, _⟩ := y
            have eμ24 := congrArg Prod.fst e
            clear e
            replace h := h μ24 eμ24
            exact vv_vret hC hM dX4_goOn_377 h
        · replace h := h.2 c19
          refine vv_aload_n hC dX4_goOn_246 rfl 1 rfl ?_
          refine vv_iconst hC dX4_goOn_247 ic_0 ?_
          refine vv_puti hC hR hK fa4_221 0 lm_0 fn_9 rfl rfl dX4_goOn_248 ?_
          refine vv_st (fun y e => ?_)
          obtain ⟨μ25, _⟩ := y
          have eμ25 := congrArg Prod.fst e
          clear e
          replace h := h μ25 eμ25
          refine vv_aload_n hC dX4_goOn_251 rfl 1 rfl ?_
          refine vv_aload_n hC dX4_goOn_252 rfl 1 rfl ?_
          refine vv_getf hC hR hK fa4_196 0 lm_0 (fm_6 ad _ _ _) dX4_goOn_253 ?_
          refine vv_puti hC hR hK fa4_193 0 lm_0 fn_7 rfl rfl dX4_goOn_256 ?_
          refine vv_st (fun y e => ?_)
          obtain ⟨μ26, _⟩ := y
          have eμ26 := congrArg Prod.fst e
          clear e
          replace h := h μ26 eμ26
          refine vv_lv [1] rfl ?_
          exact L259  _ h
      · replace h := h.2 c16
        refine vv_lv [1] rfl ?_
        exact L119  _ h
    · replace h := h.2 c13
      refine vv_aload_n hC dX4_goOn_88 rfl 1 rfl ?_
      refine vv_iconst hC dX4_goOn_89 ic_0 ?_
      refine vv_puti hC hR hK fa4_203 0 lm_0 fn_8 rfl rfl dX4_goOn_90 ?_
      refine vv_st (fun y e => ?_)
      obtain ⟨μ27, _⟩ := y
      have eμ27 := congrArg Prod.fst e
      clear e
      replace h := h μ27 eμ27
      refine vv_aload_n hC dX4_goOn_93 rfl 1 rfl ?_
      refine vv_aload_n hC dX4_goOn_94 rfl 1 rfl ?_
      refine vv_getf hC hR hK fa4_153 0 lm_0 (fm_3 ad _ _ _) dX4_goOn_95 ?_
      refine vv_puti hC hR hK fa4_196 0 lm_0 fn_6 rfl rfl dX4_goOn_98 ?_
      refine vv_st (fun y e => ?_)
      obtain ⟨μ28, _⟩ := y
      have eμ28 := congrArg Prod.fst e
      clear e
      replace h := h μ28 eμ28
      refine vv_aload_n hC dX4_goOn_101 rfl 1 rfl ?_
      refine vv_aload_n hC dX4_goOn_102 rfl 1 rfl ?_
      refine vv_getf hC hR hK fa4_153 0 lm_0 (fm_3 ad _ _ _) dX4_goOn_103 ?_
      refine vv_puti hC hR hK fa4_193 0 lm_0 fn_7 rfl rfl dX4_goOn_106 ?_
      refine vv_st (fun y e => ?_)
      obtain ⟨μ29, _⟩ := y
      have eμ29 := congrArg Prod.fst e
      clear e
      replace h := h μ29 eμ29
      refine vv_goto (tgt := 377) hC dX4_goOn_109 rfl ?_
      exact vv_vret hC hM dX4_goOn_377 h
  have L45 : ∀ (P8 : WS → Prop) (h8 : ∀ (μ : WS), P8  μ → VV C 3 (HPW D ac ad knM Ex (vS C)) (vQ C (QcW D ac ad knM (qV Q)) 0 0 (inLay ad knM)) (μ, ()) 8 [(0, .ref (ad 0))] []) (μ : WS), w_X4_goOn_45 P8  μ Q → VV C 3 (HPW D ac ad knM Ex (vS C)) (vQ C (QcW D ac ad knM (qV Q)) 0 0 (inLay ad knM)) (μ, ()) 45 [(0, .ref (ad 0))] [] := by
    intro P8 h8  μ h
    unfold w_X4_goOn_45 at h
    refine vv_aload_n hC dX4_goOn_45 rfl 0 rfl ?_
    refine vv_dup hC dX4_goOn_46 rfl ?_
    refine vv_getf hC hR hK fa4_196 0 lm_0 (fm_6 ad _ _ _) dX4_goOn_47 ?_
    refine vv_iconst hC dX4_goOn_50 ic_1 ?_
    refine vv_iadd hC dX4_goOn_51 ?_
    refine vv_puti hC hR hK fa4_196 0 lm_0 fn_6 rfl rfl dX4_goOn_52 ?_
    refine vv_st (fun y e => ?_)
    obtain ⟨μ9, _⟩ := y
    have eμ9 := congrArg Prod.fst e
    clear e
    replace h := h μ9 eμ9
    refine vv_goto (tgt := 8) hC dX4_goOn_55 rfl ?_
    exact h8 _ h
  have L8 : ∀ (μ : WS), w_X4_goOn_8   μ Q → VV C 3 (HPW D ac ad knM Ex (vS C)) (vQ C (QcW D ac ad knM (qV Q)) 0 0 (inLay ad knM)) (μ, ()) 8 [(0, .ref (ad 0))] [] := by
    intro   μ h
    refine h (fun μ => VV C 3 (HPW D ac ad knM Ex (vS C)) (vQ C (QcW D ac ad knM (qV Q)) 0 0 (inLay ad knM)) (μ, ()) 8 [(0, .ref (ad 0))] []) ?_
    clear h; intro  μ h
    have h8 : ∀ (μ : WS), (fun  (μ : WS) => VV C 3 (HPW D ac ad knM Ex (vS C)) (vQ C (QcW D ac ad knM (qV Q)) 0 0 (inLay ad knM)) (μ, ()) 8 [(0, .ref (ad 0))] [])  μ → VV C 3 (HPW D ac ad knM Ex (vS C)) (vQ C (QcW D ac ad knM (qV Q)) 0 0 (inLay ad knM)) (μ, ()) 8 [(0, .ref (ad 0))] [] := fun  _ h => h
    unfold w_X4_goOn_8b at h
    refine vv_aload_n hC dX4_goOn_8 rfl 0 rfl ?_
    refine vv_getf hC hR hK fa4_196 0 lm_0 (fm_6 ad _ _ _) dX4_goOn_9 ?_
    refine vv_aload_n hC dX4_goOn_12 rfl 0 rfl ?_
    refine vv_getf hC hR hK fa4_153 0 lm_0 (fm_3 ad _ _ _) dX4_goOn_13 ?_
    refine vv_icmp_ge (tgt := 58) hC dX4_goOn_16 rfl (fun c2 => ?_) (fun c2 => ?_)
    · replace h := h.1 c2
      exact L58  _ h
    · replace h := h.2 c2
      refine vv_aload_n hC dX4_goOn_19 rfl 0 rfl ?_
      refine vv_aload_n hC dX4_goOn_20 rfl 0 rfl ?_
      refine vv_getf hC hR hK fa4_196 0 lm_0 (fm_6 ad _ _ _) dX4_goOn_21 ?_
      refine vv_callVi hC hR hK hRo hRm [.int (μ.1 0 6)] [] (met_X4_sign (vL C) D ac ad Ex hLay hEx (μ.1 0 6) μ _ h) gw4_199 mf_X4_sign rfl lm_0 rfl rfl rfl rfl dX4_goOn_24 (fun r4 μ3 h => ?_)
      refine vv_bipush hC dX4_goOn_27 bp_32 ?_
      refine vv_icmp_eq (tgt := 45) hC dX4_goOn_29 rfl (fun c5 => ?_) (fun c5 => ?_)
      · replace h := h.1 c5
        exact L45 _ h8 _ h
      · replace h := h.2 c5
        refine vv_aload_n hC dX4_goOn_32 rfl 0 rfl ?_
        refine vv_aload_n hC dX4_goOn_33 rfl 0 rfl ?_
        refine vv_getf hC hR hK fa4_196 0 lm_0 (fm_6 ad _ _ _) dX4_goOn_34 ?_
        refine vv_callVi hC hR hK hRo hRm [.int (μ3.1 0 6)] [] (met_X4_sign (vL C) D ac ad Ex hLay hEx (μ3.1 0 6) μ3 _ h) gw4_199 mf_X4_sign rfl lm_0 rfl rfl rfl rfl dX4_goOn_37 (fun r7 μ6 h => ?_)
        refine vv_bipush hC dX4_goOn_40 bp_10 ?_
        refine vv_icmp_ne (tgt := 58) hC dX4_goOn_42 rfl (fun c8 => ?_) (fun c8 => ?_)
        · replace h := h.1 c8
          exact L58  _ h
        · replace h := h.2 c8
          exact L45 _ h8 _ h
  unfold w_X4_goOn at h
  refine vv_aload_n hC dX4_goOn_0 rfl 0 rfl ?_
  refine vv_aload_n hC dX4_goOn_1 rfl 0 rfl ?_
  refine vv_getf hC hR hK fa4_193 0 lm_0 (fm_7 ad _ _ _) dX4_goOn_2 ?_
  refine vv_puti hC hR hK fa4_196 0 lm_0 fn_6 rfl rfl dX4_goOn_5 ?_
  refine vv_st (fun y e => ?_)
  obtain ⟨μ1, _⟩ := y
  have eμ1 := congrArg Prod.fst e
  clear e
  replace h := h μ1 eμ1
  exact L8  _ h
def w_X4_isGood (μ : WS) (Q : Int32 → WS → Prop) : Prop := ((¬ μ.1 0 4 = 0) → Q 0 μ) ∧ ((μ.1 0 4 = 0) → Q 1 μ)
abbrev rm_X4_isGood : Room := { frames := 0, cells := 0, slots := 0, locals := 0 }
theorem mf_X4_isGood : MFact yX4_isGood 0 rm_X4_isGood := ⟨by decide +kernel, rfl, rfl⟩
set_option maxHeartbeats 4000000 in
theorem met_X4_isGood (l : Launch) (D : va_G) (ac : Nat → ClassId) (ad : Nat → Nat) (Ex : Heap → Prop) (hLay : LayOk ad knM) (hEx : ExOk ad knM Ex) (μ : WS) (Q : Int32 → WS → Prop) (h : w_X4_isGood  μ Q) : CMet l yX4_isGood cX4_isGood 1 (some .boolean) rm_X4_isGood D ac ad knM Ex [.ref (ad 0)] μ (qI Q) := by
  refine vv_met (lv := [(0, .ref (ad 0))]) (by decide) hLay hEx (Nat.le_of_ble_eq_true rfl) rfl ⟨rfl, rfl⟩ (fun C hC hK hRm hLl hR hM => ?_)
  subst hLl
  have hRo : RoomOk (HPW D ac ad knM Ex (vS C)) (vR C) := HPW.room
  unfold w_X4_isGood at h
  refine vv_aload_n hC dX4_isGood_0 rfl 0 rfl ?_
  refine vv_getf hC hR hK fa4_156 0 lm_0 (fm_4 ad _ _ _) dX4_isGood_1 ?_
  refine vv_if_ne (tgt := 11) hC dX4_isGood_4 rfl (fun c1 => ?_) (fun c1 => ?_)
  · replace h := h.1 c1
    refine vv_iconst hC dX4_isGood_11 ic_0 ?_
    exact vv_zret hC hM dX4_isGood_12 isB_0 h
  · replace h := h.2 c1
    refine vv_iconst hC dX4_isGood_7 ic_1 ?_
    refine vv_goto (tgt := 12) hC dX4_isGood_8 rfl ?_
    exact vv_zret hC hM dX4_isGood_12 isB_1 h
def w_X4_isWord (v1 : Int64) (μ : WS) (Q : Int32 → WS → Prop) : Prop := ((¬ μ.1 0 8 = 3) → Q 0 μ) ∧ ((μ.1 0 8 = 3) → ((¬ lg_cmp (μ.2.1 0 10) v1 = 0) → Q 0 μ) ∧ ((lg_cmp (μ.2.1 0 10) v1 = 0) → Q 1 μ))
abbrev rm_X4_isWord : Room := { frames := 0, cells := 0, slots := 0, locals := 0 }
theorem mf_X4_isWord : MFact yX4_isWord 1 rm_X4_isWord := ⟨by decide +kernel, rfl, rfl⟩
set_option maxHeartbeats 4000000 in
theorem met_X4_isWord (l : Launch) (D : va_G) (ac : Nat → ClassId) (ad : Nat → Nat) (Ex : Heap → Prop) (hLay : LayOk ad knM) (hEx : ExOk ad knM Ex) (v1 : Int64) (μ : WS) (Q : Int32 → WS → Prop) (h : w_X4_isWord v1 μ Q) : CMet l yX4_isWord cX4_isWord 3 (some .boolean) rm_X4_isWord D ac ad knM Ex [.ref (ad 0), .long v1] μ (qI Q) := by
  refine vv_met (lv := [(0, .ref (ad 0)), (1, .long v1)]) (by decide) hLay hEx (Nat.le_of_ble_eq_true rfl) rfl ⟨rfl, rfl⟩ (fun C hC hK hRm hLl hR hM => ?_)
  subst hLl
  have hRo : RoomOk (HPW D ac ad knM Ex (vS C)) (vR C) := HPW.room
  unfold w_X4_isWord at h
  refine vv_aload_n hC dX4_isWord_0 rfl 0 rfl ?_
  refine vv_getf hC hR hK fa4_203 0 lm_0 (fm_8 ad _ _ _) dX4_isWord_1 ?_
  refine vv_iconst hC dX4_isWord_4 ic_3 ?_
  refine vv_icmp_ne (tgt := 21) hC dX4_isWord_5 rfl (fun c1 => ?_) (fun c1 => ?_)
  · replace h := h.1 c1
    refine vv_iconst hC dX4_isWord_21 ic_0 ?_
    exact vv_zret hC hM dX4_isWord_22 isB_0 h
  · replace h := h.2 c1
    refine vv_aload_n hC dX4_isWord_8 rfl 0 rfl ?_
    refine vv_getf hC hR hK fa4_210 0 lm_0 (fm_10 ad _ _ _) dX4_isWord_9 ?_
    refine vv_lload_n hC dX4_isWord_12 rfl 1 rfl ?_
    refine vv_lcmp hC dX4_isWord_13 ?_
    refine vv_if_ne (tgt := 21) hC dX4_isWord_14 rfl (fun c2 => ?_) (fun c2 => ?_)
    · replace h := h.1 c2
      refine vv_iconst hC dX4_isWord_21 ic_0 ?_
      exact vv_zret hC hM dX4_isWord_22 isB_0 h
    · replace h := h.2 c2
      refine vv_iconst hC dX4_isWord_17 ic_1 ?_
      refine vv_goto (tgt := 22) hC dX4_isWord_18 rfl ?_
      exact vv_zret hC hM dX4_isWord_22 isB_1 h
def w_X4_isFull (μ : WS) (Q : Int32 → WS → Prop) : Prop := (w_X4_isWord 469786323827 μ (fun r2 μ1 => ((r2 = 0) → (w_X4_isWord 439855772532 μ1 (fun r5 μ4 => ((r5 = 0) → (w_X4_isWord 1751215716 μ4 (fun r8 μ7 => ((r8 = 0) → (w_X4_isWord 7823736 μ7 (fun r11 μ10 => ((r11 = 0) → (w_X4_isWord 1685217655 μ10 (fun r14 μ13 => ((r14 = 0) → Q 1 μ13) ∧ ((¬ r14 = 0) → (vp_in (μ13.1 0 30) 2 ∧ ((μ13.1 14 (μ13.1 0 30).toNatClampNeg = 0) → Q 0 μ13) ∧ ((¬ μ13.1 14 (μ13.1 0 30).toNatClampNeg = 0) → Q 1 μ13)))))) ∧ ((¬ r11 = 0) → (vp_in (μ10.1 0 30) 2 ∧ isB (μ10.1 13 (μ10.1 0 30).toNatClampNeg) ∧ Q (μ10.1 13 (μ10.1 0 30).toNatClampNeg) μ10))))) ∧ ((¬ r8 = 0) → (vp_in (μ7.1 0 30) 2 ∧ ((¬ μ7.1 5 (μ7.1 0 30).toNatClampNeg = 4) → Q 0 μ7) ∧ ((μ7.1 5 (μ7.1 0 30).toNatClampNeg = 4) → Q 1 μ7)))))) ∧ ((¬ r5 = 0) → (vp_in (μ4.1 0 30) 2 ∧ isB (μ4.1 12 (μ4.1 0 30).toNatClampNeg) ∧ Q (μ4.1 12 (μ4.1 0 30).toNatClampNeg) μ4))))) ∧ ((¬ r2 = 0) → (vp_in (μ1.1 0 30) 2 ∧ ((μ1.1 9 (μ1.1 0 30).toNatClampNeg ≤ 0) → Q 0 μ1) ∧ ((¬ μ1.1 9 (μ1.1 0 30).toNatClampNeg ≤ 0) → Q 1 μ1)))))
abbrev rm_X4_isFull : Room := { frames := 1, cells := 0, slots := 0, locals := 22 }
theorem mf_X4_isFull : MFact yX4_isFull 0 rm_X4_isFull := ⟨by decide +kernel, rfl, rfl⟩
set_option maxHeartbeats 4000000 in
theorem met_X4_isFull (l : Launch) (D : va_G) (ac : Nat → ClassId) (ad : Nat → Nat) (Ex : Heap → Prop) (hLay : LayOk ad knM) (hEx : ExOk ad knM Ex) (μ : WS) (Q : Int32 → WS → Prop) (h : w_X4_isFull  μ Q) : CMet l yX4_isFull cX4_isFull 1 (some .boolean) rm_X4_isFull D ac ad knM Ex [.ref (ad 0)] μ (qI Q) := by
  refine vv_met (lv := [(0, .ref (ad 0))]) (by decide) hLay hEx (Nat.le_of_ble_eq_true rfl) rfl ⟨rfl, rfl⟩ (fun C hC hK hRm hLl hR hM => ?_)
  subst hLl
  have hRo : RoomOk (HPW D ac ad knM Ex (vS C)) (vR C) := HPW.room
  unfold w_X4_isFull at h
  refine vv_aload_n hC dX4_isFull_0 rfl 0 rfl ?_
  refine vv_ldc2 hC q1856 dX4_isFull_1 ?_
  refine vv_callVi hC hR hK hRo hRm [.long 469786323827] [] (met_X4_isWord (vL C) D ac ad Ex hLay hEx 469786323827 μ _ h) gw4_256 mf_X4_isWord rfl lm_0 rfl rfl rfl rfl dX4_isFull_4 (fun r2 μ1 h => ?_)
  refine vv_if_eq (tgt := 28) hC dX4_isFull_7 rfl (fun c3 => ?_) (fun c3 => ?_)
  · replace h := h.1 c3
    refine vv_aload_n hC dX4_isFull_28 rfl 0 rfl ?_
    refine vv_ldc2 hC q1857 dX4_isFull_29 ?_
    refine vv_callVi hC hR hK hRo hRm [.long 439855772532] [] (met_X4_isWord (vL C) D ac ad Ex hLay hEx 439855772532 μ1 _ h) gw4_256 mf_X4_isWord rfl lm_0 rfl rfl rfl rfl dX4_isFull_32 (fun r5 μ4 h => ?_)
    refine vv_if_eq (tgt := 48) hC dX4_isFull_35 rfl (fun c6 => ?_) (fun c6 => ?_)
    · replace h := h.1 c6
      refine vv_aload_n hC dX4_isFull_48 rfl 0 rfl ?_
      refine vv_ldc2 hC q1858 dX4_isFull_49 ?_
      refine vv_callVi hC hR hK hRo hRm [.long 1751215716] [] (met_X4_isWord (vL C) D ac ad Ex hLay hEx 1751215716 μ4 _ h) gw4_256 mf_X4_isWord rfl lm_0 rfl rfl rfl rfl dX4_isFull_52 (fun r8 μ7 h => ?_)
      refine vv_if_eq (tgt := 77) hC dX4_isFull_55 rfl (fun c9 => ?_) (fun c9 => ?_)
      · replace h := h.1 c9
        refine vv_aload_n hC dX4_isFull_77 rfl 0 rfl ?_
        refine vv_ldc2 hC q1861 dX4_isFull_78 ?_
        refine vv_callVi hC hR hK hRo hRm [.long 7823736] [] (met_X4_isWord (vL C) D ac ad Ex hLay hEx 7823736 μ7 _ h) gw4_256 mf_X4_isWord rfl lm_0 rfl rfl rfl rfl dX4_isFull_81 (fun r11 μ10 h => ?_)
        refine vv_if_eq (tgt := 97) hC dX4_isFull_84 rfl (fun c12 => ?_) (fun c12 => ?_)
        · replace h := h.1 c12
          refine vv_aload_n hC dX4_isFull_97 rfl 0 rfl ?_
          refine vv_ldc2 hC q1862 dX4_isFull_98 ?_
          refine vv_callVi hC hR hK hRo hRm [.long 1685217655] [] (met_X4_isWord (vL C) D ac ad Ex hLay hEx 1685217655 μ10 _ h) gw4_256 mf_X4_isWord rfl lm_0 rfl rfl rfl rfl dX4_isFull_101 (fun r14 μ13 h => ?_)
          refine vv_if_eq (tgt := 119) hC dX4_isFull_104 rfl (fun c15 => ?_) (fun c15 => ?_)
          · replace h := h.1 c15
            refine vv_iconst hC dX4_isFull_119 ic_1 ?_
            refine vv_goto (tgt := 124) hC dX4_isFull_120 rfl ?_
            exact vv_zret hC hM dX4_isFull_124 isB_1 h
          · replace h := h.2 c15
            refine vv_aload_n hC dX4_isFull_107 rfl 0 rfl ?_
            refine vv_getf hC hR hK fa4_55 0 lm_0 (fm_22 ad _ _ _) dX4_isFull_108 ?_
            refine vv_aload_n hC dX4_isFull_111 rfl 0 rfl ?_
            refine vv_getf hC hR hK fa4_241 0 lm_0 (fm_30 ad _ _ _) dX4_isFull_112 ?_
            obtain ⟨hin, h⟩ := h
            refine vv_zald hC hR hK 14 lm_14 hin dX4_isFull_115 ?_
            refine vv_if_eq (tgt := 123) hC dX4_isFull_116 rfl (fun c16 => ?_) (fun c16 => ?_)
            · replace h := h.1 c16
              refine vv_iconst hC dX4_isFull_123 ic_0 ?_
              exact vv_zret hC hM dX4_isFull_124 isB_0 h
            · replace h := h.2 c16
              refine vv_iconst hC dX4_isFull_119 ic_1 ?_
              refine vv_goto (tgt := 124) hC dX4_isFull_120 rfl ?_
              exact vv_zret hC hM dX4_isFull_124 isB_1 h
        · replace h := h.2 c12
          refine vv_aload_n hC dX4_isFull_87 rfl 0 rfl ?_
          refine vv_getf hC hR hK fa4_52 0 lm_0 (fm_21 ad _ _ _) dX4_isFull_88 ?_
          refine vv_aload_n hC dX4_isFull_91 rfl 0 rfl ?_
          refine vv_getf hC hR hK fa4_241 0 lm_0 (fm_30 ad _ _ _) dX4_isFull_92 ?_
          obtain ⟨hin, h⟩ := h
          refine vv_zald hC hR hK 13 lm_13 hin dX4_isFull_95 ?_
          exact vv_zret hC hM dX4_isFull_96 h.1 h.2
      · replace h := h.2 c9
        refine vv_aload_n hC dX4_isFull_58 rfl 0 rfl ?_
        refine vv_getf hC hR hK fa4_27 0 lm_0 (fm_13 ad _ _ _) dX4_isFull_59 ?_
        refine vv_aload_n hC dX4_isFull_62 rfl 0 rfl ?_
        refine vv_getf hC hR hK fa4_241 0 lm_0 (fm_30 ad _ _ _) dX4_isFull_63 ?_
        obtain ⟨hin, h⟩ := h
        refine vv_iald hC hR hK 5 lm_5 hin dX4_isFull_66 ?_
        refine vv_iconst hC dX4_isFull_67 ic_4 ?_
        refine vv_icmp_ne (tgt := 75) hC dX4_isFull_68 rfl (fun c17 => ?_) (fun c17 => ?_)
        · replace h := h.1 c17
          refine vv_iconst hC dX4_isFull_75 ic_0 ?_
          exact vv_zret hC hM dX4_isFull_76 isB_0 h
        · replace h := h.2 c17
          refine vv_iconst hC dX4_isFull_71 ic_1 ?_
          refine vv_goto (tgt := 76) hC dX4_isFull_72 rfl ?_
          exact vv_zret hC hM dX4_isFull_76 isB_1 h
    · replace h := h.2 c6
      refine vv_aload_n hC dX4_isFull_38 rfl 0 rfl ?_
      refine vv_getf hC hR hK fa4_48 0 lm_0 (fm_20 ad _ _ _) dX4_isFull_39 ?_
      refine vv_aload_n hC dX4_isFull_42 rfl 0 rfl ?_
      refine vv_getf hC hR hK fa4_241 0 lm_0 (fm_30 ad _ _ _) dX4_isFull_43 ?_
      obtain ⟨hin, h⟩ := h
      refine vv_zald hC hR hK 12 lm_12 hin dX4_isFull_46 ?_
      exact vv_zret hC hM dX4_isFull_47 h.1 h.2
  · replace h := h.2 c3
    refine vv_aload_n hC dX4_isFull_10 rfl 0 rfl ?_
    refine vv_getf hC hR hK fa4_39 0 lm_0 (fm_17 ad _ _ _) dX4_isFull_11 ?_
    refine vv_aload_n hC dX4_isFull_14 rfl 0 rfl ?_
    refine vv_getf hC hR hK fa4_241 0 lm_0 (fm_30 ad _ _ _) dX4_isFull_15 ?_
    obtain ⟨hin, h⟩ := h
    refine vv_iald hC hR hK 9 lm_9 hin dX4_isFull_18 ?_
    refine vv_if_le (tgt := 26) hC dX4_isFull_19 rfl (fun c18 => ?_) (fun c18 => ?_)
    · replace h := h.1 c18
      refine vv_iconst hC dX4_isFull_26 ic_0 ?_
      exact vv_zret hC hM dX4_isFull_27 isB_0 h
    · replace h := h.2 c18
      refine vv_iconst hC dX4_isFull_22 ic_1 ?_
      refine vv_goto (tgt := 27) hC dX4_isFull_23 rfl ?_
      exact vv_zret hC hM dX4_isFull_27 isB_1 h
def w_X4_fails (v1 : Int32) (v2 : Int32) (μ : WS) (Q : WS → Prop) : Prop := ((μ.1 0 4 ≤ 0) → (∀ μ2 : WS, μ2 = wset μ 0 4 v1 → (∀ μ3 : WS, μ3 = wset μ2 0 5 v2 → Q μ3))) ∧ ((¬ μ.1 0 4 ≤ 0) → Q μ)
abbrev rm_X4_fails : Room := { frames := 0, cells := 0, slots := 0, locals := 0 }
theorem mf_X4_fails : MFact yX4_fails 2 rm_X4_fails := ⟨by decide +kernel, rfl, rfl⟩
set_option maxHeartbeats 4000000 in
theorem met_X4_fails (l : Launch) (D : va_G) (ac : Nat → ClassId) (ad : Nat → Nat) (Ex : Heap → Prop) (hLay : LayOk ad knM) (hEx : ExOk ad knM Ex) (v1 : Int32) (v2 : Int32) (μ : WS) (Q : WS → Prop) (h : w_X4_fails v1 v2 μ Q) : CMet l yX4_fails cX4_fails 3 none rm_X4_fails D ac ad knM Ex [.ref (ad 0), .int v1, .int v2] μ (qV Q) := by
  refine vv_met (lv := [(0, .ref (ad 0)), (1, .int v1), (2, .int v2)]) (by decide) hLay hEx (Nat.le_of_ble_eq_true rfl) rfl ⟨rfl, rfl⟩ (fun C hC hK hRm hLl hR hM => ?_)
  subst hLl
  have hRo : RoomOk (HPW D ac ad knM Ex (vS C)) (vR C) := HPW.room
  unfold w_X4_fails at h
  refine vv_aload_n hC dX4_fails_0 rfl 0 rfl ?_
  refine vv_getf hC hR hK fa4_156 0 lm_0 (fm_4 ad _ _ _) dX4_fails_1 ?_
  refine vv_if_le (tgt := 8) hC dX4_fails_4 rfl (fun c1 => ?_) (fun c1 => ?_)
  · replace h := h.1 c1
    refine vv_aload_n hC dX4_fails_8 rfl 0 rfl ?_
    refine vv_iload_n hC dX4_fails_9 rfl 1 rfl ?_
    refine vv_puti hC hR hK fa4_156 0 lm_0 fn_4 rfl rfl dX4_fails_10 ?_
    refine vv_st (fun y e => ?_)
    obtain ⟨μ2, _⟩ := y
    have eμ2 := congrArg Prod.fst e
    clear e
    replace h := h μ2 eμ2
    refine vv_aload_n hC dX4_fails_13 rfl 0 rfl ?_
    refine vv_iload_n hC dX4_fails_14 rfl 2 rfl ?_
    refine vv_puti hC hR hK fa4_16 0 lm_0 fn_5 rfl rfl dX4_fails_15 ?_
    refine vv_st (fun y e => ?_)
    obtain ⟨μ3, _⟩ := y
    have eμ3 := congrArg Prod.fst e
    clear e
    replace h := h μ3 eμ3
    exact vv_vret hC hM dX4_fails_18 h
  · replace h := h.2 c1
    exact vv_vret hC hM dX4_fails_7 h
def w_X4_misplaced_14 (s0 : Int32) (μ : WS) (Q : WS → Prop) : Prop := (w_X4_fails s0 (μ.1 0 6) μ (fun μ2 => Q μ2))
def w_X4_misplaced (μ : WS) (Q : WS → Prop) : Prop := ((¬ μ.1 0 8 = 1) → w_X4_misplaced_14 2 μ Q) ∧ ((μ.1 0 8 = 1) → w_X4_misplaced_14 1 μ Q)
abbrev rm_X4_misplaced : Room := { frames := 1, cells := 0, slots := 0, locals := 22 }
theorem mf_X4_misplaced : MFact yX4_misplaced 0 rm_X4_misplaced := ⟨by decide +kernel, rfl, rfl⟩
set_option maxHeartbeats 4000000 in
theorem met_X4_misplaced (l : Launch) (D : va_G) (ac : Nat → ClassId) (ad : Nat → Nat) (Ex : Heap → Prop) (hLay : LayOk ad knM) (hEx : ExOk ad knM Ex) (μ : WS) (Q : WS → Prop) (h : w_X4_misplaced  μ Q) : CMet l yX4_misplaced cX4_misplaced 1 none rm_X4_misplaced D ac ad knM Ex [.ref (ad 0)] μ (qV Q) := by
  refine vv_met (lv := [(0, .ref (ad 0))]) (by decide) hLay hEx (Nat.le_of_ble_eq_true rfl) rfl ⟨rfl, rfl⟩ (fun C hC hK hRm hLl hR hM => ?_)
  subst hLl
  have hRo : RoomOk (HPW D ac ad knM Ex (vS C)) (vR C) := HPW.room
  have L14 : ∀ (s0 : Int32) (μ : WS), w_X4_misplaced_14  s0 μ Q → VV C 1 (HPW D ac ad knM Ex (vS C)) (vQ C (QcW D ac ad knM (qV Q)) 0 0 (inLay ad knM)) (μ, ()) 14 [(0, .ref (ad 0))] [.int s0, .ref (ad 0)] := by
    intro  s0 μ h
    unfold w_X4_misplaced_14 at h
    refine vv_aload_n hC dX4_misplaced_14 rfl 0 rfl ?_
    refine vv_getf hC hR hK fa4_196 0 lm_0 (fm_6 ad _ _ _) dX4_misplaced_15 ?_
    refine vv_callVv hC hR hK hRo hRm [.int s0, .int (μ.1 0 6)] [] (met_X4_fails (vL C) D ac ad Ex hLay hEx s0 (μ.1 0 6) μ _ h) gw4_227 mf_X4_fails rfl lm_0 rfl rfl rfl rfl dX4_misplaced_18 (fun μ2 h => ?_)
    exact vv_vret hC hM dX4_misplaced_21 h
  unfold w_X4_misplaced at h
  refine vv_aload_n hC dX4_misplaced_0 rfl 0 rfl ?_
  refine vv_aload_n hC dX4_misplaced_1 rfl 0 rfl ?_
  refine vv_getf hC hR hK fa4_203 0 lm_0 (fm_8 ad _ _ _) dX4_misplaced_2 ?_
  refine vv_iconst hC dX4_misplaced_5 ic_1 ?_
  refine vv_icmp_ne (tgt := 13) hC dX4_misplaced_6 rfl (fun c1 => ?_) (fun c1 => ?_)
  · replace h := h.1 c1
    refine vv_iconst hC dX4_misplaced_13 ic_2 ?_
    exact L14  _ _ h
  · replace h := h.2 c1
    refine vv_iconst hC dX4_misplaced_9 ic_1 ?_
    refine vv_goto (tgt := 14) hC dX4_misplaced_10 rfl ?_
    exact L14  _ _ h
def w_X4_numeral_69 (v1 : Int32) (v3 : Int32) (μ : WS) (Q : Int32 → WS → Prop) : Prop := (w_X4_isGood μ (fun r21 μ20 => ((r21 = 0) → Q v1 μ20) ∧ ((¬ r21 = 0) → Q v3 μ20)))
def w_X4_numeral_53 (v1 : Int32) (μ : WS) (Q : Int32 → WS → Prop) : Prop := (∀ x14 : Int32, x14 = μ.1 0 9 → (w_X4_isGood μ (fun r16 μ15 => ((r16 = 0) → w_X4_numeral_69 v1 x14 μ15 Q) ∧ ((¬ r16 = 0) → (w_X4_goOn μ15 (fun μ18 => w_X4_numeral_69 v1 x14 μ18 Q))))))
def w_X4_numeral_44 (v1 : Int32) (μ : WS) (Q : Int32 → WS → Prop) : Prop := (w_X4_fails 4 (μ.1 0 6) μ (fun μ12 => w_X4_numeral_53 v1 μ12 Q))
def w_X4_numeral_21 (v1 : Int32) (v2 : Int32) (μ : WS) (Q : Int32 → WS → Prop) : Prop := (w_X4_isGood μ (fun r8 μ7 => ((r8 = 0) → w_X4_numeral_53 v1 μ7 Q) ∧ ((¬ r8 = 0) → ((μ7.1 0 9 < v1) → w_X4_numeral_44 v1 μ7 Q) ∧ ((¬ μ7.1 0 9 < v1) → ((μ7.1 0 9 ≤ v2) → w_X4_numeral_53 v1 μ7 Q) ∧ ((¬ μ7.1 0 9 ≤ v2) → w_X4_numeral_44 v1 μ7 Q)))))
def w_X4_numeral (v1 : Int32) (v2 : Int32) (μ : WS) (Q : Int32 → WS → Prop) : Prop := (w_X4_isGood μ (fun r2 μ1 => ((¬ r2 = 0) → ((μ1.1 0 8 = 4) → w_X4_numeral_21 v1 v2 μ1 Q) ∧ ((¬ μ1.1 0 8 = 4) → (w_X4_misplaced μ1 (fun μ5 => w_X4_numeral_21 v1 v2 μ5 Q)))) ∧ ((r2 = 0) → Q v1 μ1)))
abbrev rm_X4_numeral : Room := { frames := 2, cells := 0, slots := 0, locals := 44 }
theorem mf_X4_numeral : MFact yX4_numeral 2 rm_X4_numeral := ⟨by decide +kernel, rfl, rfl⟩
set_option maxHeartbeats 4000000 in
theorem met_X4_numeral (l : Launch) (D : va_G) (ac : Nat → ClassId) (ad : Nat → Nat) (Ex : Heap → Prop) (hLay : LayOk ad knM) (hEx : ExOk ad knM Ex) (v1 : Int32) (v2 : Int32) (μ : WS) (Q : Int32 → WS → Prop) (h : w_X4_numeral v1 v2 μ Q) : CMet l yX4_numeral cX4_numeral 4 (some .int) rm_X4_numeral D ac ad knM Ex [.ref (ad 0), .int v1, .int v2] μ (qI Q) := by
  refine vv_met (lv := [(0, .ref (ad 0)), (1, .int v1), (2, .int v2)]) (by decide) hLay hEx (Nat.le_of_ble_eq_true rfl) rfl ⟨rfl, rfl⟩ (fun C hC hK hRm hLl hR hM => ?_)
  subst hLl
  have hRo : RoomOk (HPW D ac ad knM Ex (vS C)) (vR C) := HPW.room
  have L69 : ∀ (v1 : Int32) (v3 : Int32) (μ : WS), w_X4_numeral_69  v1 v3 μ Q → VV C 4 (HPW D ac ad knM Ex (vS C)) (vQ C (QcW D ac ad knM (qI Q)) 0 0 (inLay ad knM)) (μ, ()) 69 [(0, .ref (ad 0)), (1, .int v1), (3, .int v3)] [] := by
    intro  v1 v3 μ h
    unfold w_X4_numeral_69 at h
    refine vv_aload_n hC dX4_numeral_69 rfl 0 rfl ?_
    refine vv_callVi hC hR hK hRo hRm [] [] (met_X4_isGood (vL C) D ac ad Ex hLay hEx  μ _ h) gw4_231 mf_X4_isGood rfl lm_0 rfl rfl rfl rfl dX4_numeral_70 (fun r21 μ20 h => ?_)
    refine vv_if_eq (tgt := 80) hC dX4_numeral_73 rfl (fun c22 => ?_) (fun c22 => ?_)
    · replace h := h.1 c22
      refine vv_iload_n hC dX4_numeral_80 rfl 1 rfl ?_
      exact vv_iret hC hM dX4_numeral_81 h
    · replace h := h.2 c22
      refine vv_iload_n hC dX4_numeral_76 rfl 2 rfl ?_
      refine vv_goto (tgt := 81) hC dX4_numeral_77 rfl ?_
      exact vv_iret hC hM dX4_numeral_81 h
  have L53 : ∀ (v1 : Int32) (μ : WS), w_X4_numeral_53  v1 μ Q → VV C 4 (HPW D ac ad knM Ex (vS C)) (vQ C (QcW D ac ad knM (qI Q)) 0 0 (inLay ad knM)) (μ, ()) 53 [(0, .ref (ad 0)), (1, .int v1)] [] := by
    intro  v1 μ h
    unfold w_X4_numeral_53 at h
    refine vv_aload_n hC dX4_numeral_53 rfl 0 rfl ?_
    refine vv_getf hC hR hK fa4_221 0 lm_0 (fm_9 ad _ _ _) dX4_numeral_54 ?_
    refine vv_topi (fun x14 ex14 => ?_)
    replace h := h x14 ex14
    refine vv_istore_n (lv' := [(3, .int x14), (0, .ref (ad 0)), (1, .int v1)]) hC dX4_numeral_57 rfl (by decide) rfl ?_
    refine vv_aload_n hC dX4_numeral_58 rfl 1 rfl ?_
    refine vv_callVi hC hR hK hRo hRm [] [] (met_X4_isGood (vL C) D ac ad Ex hLay hEx  μ _ h) gw4_231 mf_X4_isGood rfl lm_0 rfl rfl rfl rfl dX4_numeral_59 (fun r16 μ15 h => ?_)
    refine vv_if_eq (tgt := 69) hC dX4_numeral_62 rfl (fun c17 => ?_) (fun c17 => ?_)
    · replace h := h.1 c17
      refine vv_lv [1, 2, 0] rfl ?_
      exact L69  _ _ _ h
    · replace h := h.2 c17
      refine vv_aload_n hC dX4_numeral_65 rfl 1 rfl ?_
      refine vv_callVv hC hR hK hRo hRm [] [] (met_X4_goOn (vL C) D ac ad Ex hLay hEx  μ15 _ h) gw4_235 mf_X4_goOn rfl lm_0 rfl rfl rfl rfl dX4_numeral_66 (fun μ18 h => ?_)
      refine vv_lv [1, 2, 0] rfl ?_
      exact L69  _ _ _ h
  have L44 : ∀ (v1 : Int32) (μ : WS), w_X4_numeral_44  v1 μ Q → VV C 4 (HPW D ac ad knM Ex (vS C)) (vQ C (QcW D ac ad knM (qI Q)) 0 0 (inLay ad knM)) (μ, ()) 44 [(0, .ref (ad 0)), (1, .int v1)] [] := by
    intro  v1 μ h
    unfold w_X4_numeral_44 at h
    refine vv_aload_n hC dX4_numeral_44 rfl 0 rfl ?_
    refine vv_iconst hC dX4_numeral_45 ic_4 ?_
    refine vv_aload_n hC dX4_numeral_46 rfl 0 rfl ?_
    refine vv_getf hC hR hK fa4_196 0 lm_0 (fm_6 ad _ _ _) dX4_numeral_47 ?_
    refine vv_callVv hC hR hK hRo hRm [.int 4, .int (μ.1 0 6)] [] (met_X4_fails (vL C) D ac ad Ex hLay hEx 4 (μ.1 0 6) μ _ h) gw4_227 mf_X4_fails rfl lm_0 rfl rfl rfl rfl dX4_numeral_50 (fun μ12 h => ?_)
    exact L53  _ _ h
  have L21 : ∀ (v1 : Int32) (v2 : Int32) (μ : WS), w_X4_numeral_21  v1 v2 μ Q → VV C 4 (HPW D ac ad knM Ex (vS C)) (vQ C (QcW D ac ad knM (qI Q)) 0 0 (inLay ad knM)) (μ, ()) 21 [(0, .ref (ad 0)), (1, .int v1), (2, .int v2)] [] := by
    intro  v1 v2 μ h
    unfold w_X4_numeral_21 at h
    refine vv_aload_n hC dX4_numeral_21 rfl 0 rfl ?_
    refine vv_callVi hC hR hK hRo hRm [] [] (met_X4_isGood (vL C) D ac ad Ex hLay hEx  μ _ h) gw4_231 mf_X4_isGood rfl lm_0 rfl rfl rfl rfl dX4_numeral_22 (fun r8 μ7 h => ?_)
    refine vv_if_eq (tgt := 53) hC dX4_numeral_25 rfl (fun c9 => ?_) (fun c9 => ?_)
    · replace h := h.1 c9
      refine vv_lv [0, 1] rfl ?_
      exact L53  _ _ h
    · replace h := h.2 c9
      refine vv_aload_n hC dX4_numeral_28 rfl 0 rfl ?_
      refine vv_getf hC hR hK fa4_221 0 lm_0 (fm_9 ad _ _ _) dX4_numeral_29 ?_
      refine vv_iload_n hC dX4_numeral_32 rfl 1 rfl ?_
      refine vv_icmp_lt (tgt := 44) hC dX4_numeral_33 rfl (fun c10 => ?_) (fun c10 => ?_)
      · replace h := h.1 c10
        refine vv_lv [0, 1] rfl ?_
        exact L44  _ _ h
      · replace h := h.2 c10
        refine vv_aload_n hC dX4_numeral_36 rfl 0 rfl ?_
        refine vv_getf hC hR hK fa4_221 0 lm_0 (fm_9 ad _ _ _) dX4_numeral_37 ?_
        refine vv_iload_n hC dX4_numeral_40 rfl 2 rfl ?_
        refine vv_icmp_le (tgt := 53) hC dX4_numeral_41 rfl (fun c11 => ?_) (fun c11 => ?_)
        · replace h := h.1 c11
          refine vv_lv [0, 1] rfl ?_
          exact L53  _ _ h
        · replace h := h.2 c11
          refine vv_lv [0, 1] rfl ?_
          exact L44  _ _ h
  unfold w_X4_numeral at h
  refine vv_aload_n hC dX4_numeral_0 rfl 0 rfl ?_
  refine vv_callVi hC hR hK hRo hRm [] [] (met_X4_isGood (vL C) D ac ad Ex hLay hEx  μ _ h) gw4_231 mf_X4_isGood rfl lm_0 rfl rfl rfl rfl dX4_numeral_1 (fun r2 μ1 h => ?_)
  refine vv_if_ne (tgt := 9) hC dX4_numeral_4 rfl (fun c3 => ?_) (fun c3 => ?_)
  · replace h := h.1 c3
    refine vv_aload_n hC dX4_numeral_9 rfl 0 rfl ?_
    refine vv_getf hC hR hK fa4_203 0 lm_0 (fm_8 ad _ _ _) dX4_numeral_10 ?_
    refine vv_iconst hC dX4_numeral_13 ic_4 ?_
    refine vv_icmp_eq (tgt := 21) hC dX4_numeral_14 rfl (fun c4 => ?_) (fun c4 => ?_)
    · replace h := h.1 c4
      exact L21  _ _ _ h
    · replace h := h.2 c4
      refine vv_aload_n hC dX4_numeral_17 rfl 0 rfl ?_
      refine vv_callVv hC hR hK hRo hRm [] [] (met_X4_misplaced (vL C) D ac ad Ex hLay hEx  μ1 _ h) gw4_238 mf_X4_misplaced rfl lm_0 rfl rfl rfl rfl dX4_numeral_18 (fun μ5 h => ?_)
      exact L21  _ _ _ h
  · replace h := h.2 c3
    refine vv_iload_n hC dX4_numeral_7 rfl 1 rfl ?_
    exact vv_iret hC hM dX4_numeral_8 h
def w_X4_readFirst_104 (P12 : Int32 → WS → Prop) (s0 : Int32) (μ : WS) (Q : WS → Prop) : Prop := P12 s0 μ
def w_X4_readFirst_76 (P12 : Int32 → WS → Prop) (v3 : Int32) (μ : WS) (Q : WS → Prop) : Prop := (vp_in (μ.1 0 30) 2 ∧ (vp_in (μ.1 0 30) 2 ∧ (∀ μ15 : WS, μ15 = wset μ 4 (μ.1 0 30).toNatClampNeg ((μ.1 4 (μ.1 0 30).toNatClampNeg) ||| (1 <<< (v3 &&& 31))) → ((¬ μ15.1 0 8 = 4) → w_X4_readFirst_104 P12 0 μ15 Q) ∧ ((μ15.1 0 8 = 4) → w_X4_readFirst_104 P12 1 μ15 Q))))
def w_X4_readFirst_12b (P12 : Int32 → WS → Prop) (v1 : Int32) (μ : WS) (Q : WS → Prop) : Prop := (w_X4_isGood μ (fun r3 μ2 => ((r3 = 0) → Q μ2) ∧ ((¬ r3 = 0) → ((v1 = 0) → Q μ2) ∧ ((¬ v1 = 0) → (∀ x6 : Int32, x6 = μ2.1 0 6 → (vp_in (μ2.1 0 30) 2 ∧ (w_X4_numeral 0 ((μ2.1 3 (μ2.1 0 30).toNatClampNeg) - 1) μ2 (fun r8 μ7 => (w_X4_isGood μ7 (fun r10 μ9 => ((¬ r10 = 0) → (vp_in (μ9.1 0 30) 2 ∧ ((¬ ((μ9.1 4 (μ9.1 0 30).toNatClampNeg) >>> (r8 &&& 31)) &&& 1 = 1) → w_X4_readFirst_76 P12 r8 μ9 Q) ∧ ((((μ9.1 4 (μ9.1 0 30).toNatClampNeg) >>> (r8 &&& 31)) &&& 1 = 1) → (w_X4_fails 3 x6 μ9 (fun μ13 => w_X4_readFirst_76 P12 r8 μ13 Q))))) ∧ ((r10 = 0) → Q μ9)))))))))))
def w_X4_readFirst_12 (v1 : Int32) (μ : WS) (Q : WS → Prop) : Prop := ∀ P12 : Int32 → WS → Prop, (∀ (v1 : Int32) (μ : WS), w_X4_readFirst_12b  P12 v1 μ Q → P12 v1 μ) → P12 v1 μ
def w_X4_readFirst (μ : WS) (Q : WS → Prop) : Prop := (vp_in (μ.1 0 30) 2 ∧ (∀ μ1 : WS, μ1 = wset μ 12 (μ.1 0 30).toNatClampNeg (vp_nar .boolean 1) → w_X4_readFirst_12 1 μ1 Q))
abbrev rm_X4_readFirst : Room := { frames := 3, cells := 0, slots := 0, locals := 67 }
theorem mf_X4_readFirst : MFact yX4_readFirst 0 rm_X4_readFirst := ⟨by decide +kernel, rfl, rfl⟩
set_option maxHeartbeats 4000000 in
theorem met_X4_readFirst (l : Launch) (D : va_G) (ac : Nat → ClassId) (ad : Nat → Nat) (Ex : Heap → Prop) (hLay : LayOk ad knM) (hEx : ExOk ad knM Ex) (μ : WS) (Q : WS → Prop) (h : w_X4_readFirst  μ Q) : CMet l yX4_readFirst cX4_readFirst 4 none rm_X4_readFirst D ac ad knM Ex [.ref (ad 0)] μ (qV Q) := by
  refine vv_met (lv := [(0, .ref (ad 0))]) (by decide) hLay hEx (Nat.le_of_ble_eq_true rfl) rfl ⟨rfl, rfl⟩ (fun C hC hK hRm hLl hR hM => ?_)
  subst hLl
  have hRo : RoomOk (HPW D ac ad knM Ex (vS C)) (vR C) := HPW.room
  have L104 : ∀ (P12 : Int32 → WS → Prop) (h12 : ∀ (v1 : Int32) (μ : WS), P12 v1 μ → VV C 4 (HPW D ac ad knM Ex (vS C)) (vQ C (QcW D ac ad knM (qV Q)) 0 0 (inLay ad knM)) (μ, ()) 12 [(0, .ref (ad 0)), (1, .int v1)] []) (s0 : Int32) (μ : WS), w_X4_readFirst_104 P12 s0 μ Q → VV C 4 (HPW D ac ad knM Ex (vS C)) (vQ C (QcW D ac ad knM (qV Q)) 0 0 (inLay ad knM)) (μ, ()) 104 [(0, .ref (ad 0))] [.int s0] := by
    intro P12 h12 s0 μ h
    unfold w_X4_readFirst_104 at h
    refine vv_istore_n (lv' := [(1, .int s0), (0, .ref (ad 0))]) hC dX4_readFirst_104 rfl (by decide) rfl ?_
    refine vv_goto (tgt := 12) hC dX4_readFirst_105 rfl ?_
    refine vv_lv [1, 0] rfl ?_
    exact h12 _ _ h
  have L76 : ∀ (P12 : Int32 → WS → Prop) (h12 : ∀ (v1 : Int32) (μ : WS), P12 v1 μ → VV C 4 (HPW D ac ad knM Ex (vS C)) (vQ C (QcW D ac ad knM (qV Q)) 0 0 (inLay ad knM)) (μ, ()) 12 [(0, .ref (ad 0)), (1, .int v1)] []) (v3 : Int32) (μ : WS), w_X4_readFirst_76 P12 v3 μ Q → VV C 4 (HPW D ac ad knM Ex (vS C)) (vQ C (QcW D ac ad knM (qV Q)) 0 0 (inLay ad knM)) (μ, ()) 76 [(0, .ref (ad 0)), (3, .int v3)] [] := by
    intro P12 h12 v3 μ h
    unfold w_X4_readFirst_76 at h
    refine vv_aload_n hC dX4_readFirst_76 rfl 0 rfl ?_
    refine vv_getf hC hR hK fa4_24 0 lm_0 (fm_12 ad _ _ _) dX4_readFirst_77 ?_
    refine vv_aload_n hC dX4_readFirst_80 rfl 0 rfl ?_
    refine vv_getf hC hR hK fa4_241 0 lm_0 (fm_30 ad _ _ _) dX4_readFirst_81 ?_
    refine vv_dup2 hC dX4_readFirst_84 rfl rfl ?_
    obtain ⟨hin, h⟩ := h
    refine vv_iald hC hR hK 4 lm_4 hin dX4_readFirst_85 ?_
    refine vv_iconst hC dX4_readFirst_86 ic_1 ?_
    refine vv_iload_n hC dX4_readFirst_87 rfl 1 rfl ?_
    refine vv_ishl hC dX4_readFirst_88 ?_
    refine vv_ior hC dX4_readFirst_89 ?_
    obtain ⟨hin, h⟩ := h
    refine vv_iast hC hR hK 4 lm_4 hin dX4_readFirst_90 ?_
    refine vv_st (fun y e => ?_)
    obtain ⟨μ15, _⟩ := y
    have eμ15 := congrArg Prod.fst e
    clear e
    replace h := h μ15 eμ15
    refine vv_aload_n hC dX4_readFirst_91 rfl 0 rfl ?_
    refine vv_getf hC hR hK fa4_203 0 lm_0 (fm_8 ad _ _ _) dX4_readFirst_92 ?_
    refine vv_iconst hC dX4_readFirst_95 ic_4 ?_
    refine vv_icmp_ne (tgt := 103) hC dX4_readFirst_96 rfl (fun c16 => ?_) (fun c16 => ?_)
    · replace h := h.1 c16
      refine vv_iconst hC dX4_readFirst_103 ic_0 ?_
      refine vv_lv [0] rfl ?_
      exact L104 _ h12 _ _ h
    · replace h := h.2 c16
      refine vv_iconst hC dX4_readFirst_99 ic_1 ?_
      refine vv_goto (tgt := 104) hC dX4_readFirst_100 rfl ?_
      refine vv_lv [0] rfl ?_
      exact L104 _ h12 _ _ h
  have L12 : ∀ (v1 : Int32) (μ : WS), w_X4_readFirst_12  v1 μ Q → VV C 4 (HPW D ac ad knM Ex (vS C)) (vQ C (QcW D ac ad knM (qV Q)) 0 0 (inLay ad knM)) (μ, ()) 12 [(0, .ref (ad 0)), (1, .int v1)] [] := by
    intro  v1 μ h
    refine h (fun v1 μ => VV C 4 (HPW D ac ad knM Ex (vS C)) (vQ C (QcW D ac ad knM (qV Q)) 0 0 (inLay ad knM)) (μ, ()) 12 [(0, .ref (ad 0)), (1, .int v1)] []) ?_
    clear h; intro v1 μ h
    have h12 : ∀ (v1 : Int32) (μ : WS), (fun v1 (μ : WS) => VV C 4 (HPW D ac ad knM Ex (vS C)) (vQ C (QcW D ac ad knM (qV Q)) 0 0 (inLay ad knM)) (μ, ()) 12 [(0, .ref (ad 0)), (1, .int v1)] []) v1 μ → VV C 4 (HPW D ac ad knM Ex (vS C)) (vQ C (QcW D ac ad knM (qV Q)) 0 0 (inLay ad knM)) (μ, ()) 12 [(0, .ref (ad 0)), (1, .int v1)] [] := fun _ _ h => h
    unfold w_X4_readFirst_12b at h
    refine vv_aload_n hC dX4_readFirst_12 rfl 0 rfl ?_
    refine vv_callVi hC hR hK hRo hRm [] [] (met_X4_isGood (vL C) D ac ad Ex hLay hEx  μ _ h) gw4_231 mf_X4_isGood rfl lm_0 rfl rfl rfl rfl dX4_readFirst_13 (fun r3 μ2 h => ?_)
    refine vv_if_eq (tgt := 108) hC dX4_readFirst_16 rfl (fun c4 => ?_) (fun c4 => ?_)
    · replace h := h.1 c4
      exact vv_vret hC hM dX4_readFirst_108 h
    · replace h := h.2 c4
      refine vv_iload_n hC dX4_readFirst_19 rfl 1 rfl ?_
      refine vv_if_eq (tgt := 108) hC dX4_readFirst_20 rfl (fun c5 => ?_) (fun c5 => ?_)
      · replace h := h.1 c5
        exact vv_vret hC hM dX4_readFirst_108 h
      · replace h := h.2 c5
        refine vv_aload_n hC dX4_readFirst_23 rfl 0 rfl ?_
        refine vv_getf hC hR hK fa4_196 0 lm_0 (fm_6 ad _ _ _) dX4_readFirst_24 ?_
        refine vv_topi (fun x6 ex6 => ?_)
        replace h := h x6 ex6
        refine vv_istore_n (lv' := [(2, .int x6), (0, .ref (ad 0)), (1, .int v1)]) hC dX4_readFirst_27 rfl (by decide) rfl ?_
        refine vv_aload_n hC dX4_readFirst_28 rfl 1 rfl ?_
        refine vv_iconst hC dX4_readFirst_29 ic_0 ?_
        refine vv_aload_n hC dX4_readFirst_30 rfl 1 rfl ?_
        refine vv_getf hC hR hK fa4_20 0 lm_0 (fm_11 ad _ _ _) dX4_readFirst_31 ?_
        refine vv_aload_n hC dX4_readFirst_34 rfl 1 rfl ?_
        refine vv_getf hC hR hK fa4_241 0 lm_0 (fm_30 ad _ _ _) dX4_readFirst_35 ?_
        obtain ⟨hin, h⟩ := h
        refine vv_iald hC hR hK 3 lm_3 hin dX4_readFirst_38 ?_
        refine vv_iconst hC dX4_readFirst_39 ic_1 ?_
        refine vv_isub hC dX4_readFirst_40 ?_
        refine vv_callVi hC hR hK hRo hRm [.int 0, .int ((μ2.1 3 (μ2.1 0 30).toNatClampNeg) - 1)] [] (met_X4_numeral (vL C) D ac ad Ex hLay hEx 0 ((μ2.1 3 (μ2.1 0 30).toNatClampNeg) - 1) μ2 _ h) gw4_262 mf_X4_numeral rfl lm_0 rfl rfl rfl rfl dX4_readFirst_41 (fun r8 μ7 h => ?_)
        refine vv_istore_n (lv' := [(3, .int r8), (2, .int x6), (0, .ref (ad 0)), (1, .int v1)]) hC dX4_readFirst_44 rfl (by decide) rfl ?_
        refine vv_aload_n hC dX4_readFirst_45 rfl 2 rfl ?_
        refine vv_callVi hC hR hK hRo hRm [] [] (met_X4_isGood (vL C) D ac ad Ex hLay hEx  μ7 _ h) gw4_231 mf_X4_isGood rfl lm_0 rfl rfl rfl rfl dX4_readFirst_46 (fun r10 μ9 h => ?_)
        refine vv_if_ne (tgt := 53) hC dX4_readFirst_49 rfl (fun c11 => ?_) (fun c11 => ?_)
        · replace h := h.1 c11
          refine vv_aload_n hC dX4_readFirst_53 rfl 2 rfl ?_
          refine vv_getf hC hR hK fa4_24 0 lm_0 (fm_12 ad _ _ _) dX4_readFirst_54 ?_
          refine vv_aload_n hC dX4_readFirst_57 rfl 2 rfl ?_
          refine vv_getf hC hR hK fa4_241 0 lm_0 (fm_30 ad _ _ _) dX4_readFirst_58 ?_
          obtain ⟨hin, h⟩ := h
          refine vv_iald hC hR hK 4 lm_4 hin dX4_readFirst_61 ?_
          refine vv_iload_n hC dX4_readFirst_62 rfl 0 rfl ?_
          refine vv_ishr hC dX4_readFirst_63 ?_
          refine vv_iconst hC dX4_readFirst_64 ic_1 ?_
          refine vv_iand hC dX4_readFirst_65 ?_
          refine vv_iconst hC dX4_readFirst_66 ic_1 ?_
          refine vv_icmp_ne (tgt := 76) hC dX4_readFirst_67 rfl (fun c12 => ?_) (fun c12 => ?_)
          · replace h := h.1 c12
            refine vv_lv [2, 0] rfl ?_
            exact L76 _ h12 _ _ h
          · replace h := h.2 c12
            refine vv_aload_n hC dX4_readFirst_70 rfl 2 rfl ?_
            refine vv_iconst hC dX4_readFirst_71 ic_3 ?_
            refine vv_iload_n hC dX4_readFirst_72 rfl 1 rfl ?_
            refine vv_callVv hC hR hK hRo hRm [.int 3, .int x6] [] (met_X4_fails (vL C) D ac ad Ex hLay hEx 3 x6 μ9 _ h) gw4_227 mf_X4_fails rfl lm_0 rfl rfl rfl rfl dX4_readFirst_73 (fun μ13 h => ?_)
            refine vv_lv [2, 0] rfl ?_
            exact L76 _ h12 _ _ h
        · replace h := h.2 c11
          exact vv_vret hC hM dX4_readFirst_52 h
  unfold w_X4_readFirst at h
  refine vv_aload_n hC dX4_readFirst_0 rfl 0 rfl ?_
  refine vv_getf hC hR hK fa4_48 0 lm_0 (fm_20 ad _ _ _) dX4_readFirst_1 ?_
  refine vv_aload_n hC dX4_readFirst_4 rfl 0 rfl ?_
  refine vv_getf hC hR hK fa4_241 0 lm_0 (fm_30 ad _ _ _) dX4_readFirst_5 ?_
  refine vv_iconst hC dX4_readFirst_8 ic_1 ?_
  obtain ⟨hin, h⟩ := h
  refine vv_zast hC hR hK 12 lm_12 hin dX4_readFirst_9 ?_
  refine vv_st (fun y e => ?_)
  obtain ⟨μ1, _⟩ := y
  have eμ1 := congrArg Prod.fst e
  clear e
  replace h := h μ1 eμ1
  refine vv_iconst hC dX4_readFirst_10 ic_1 ?_
  refine vv_istore_n (lv' := [(1, .int 1), (0, .ref (ad 0))]) hC dX4_readFirst_11 rfl (by decide) rfl ?_
  refine vv_lv [1, 0] rfl ?_
  exact L12  _ _ h
def w_X4_handHere_46 (P2 : Int32 → WS → Prop) (v1 : Int32) (μ : WS) (Q : Int32 → WS → Prop) : Prop := P2 (v1 + 1) μ
def w_X4_handHere_2b (P2 : Int32 → WS → Prop) (v1 : Int32) (μ : WS) (Q : Int32 → WS → Prop) : Prop := (vp_in (μ.1 0 30) 2 ∧ ((μ.1 5 (μ.1 0 30).toNatClampNeg ≤ v1) → Q (-1) μ) ∧ ((¬ μ.1 5 (μ.1 0 30).toNatClampNeg ≤ v1) → ((¬ μ.1 0 8 = 2) → w_X4_handHere_46 P2 v1 μ Q) ∧ ((μ.1 0 8 = 2) → (vp_in ((4 * (μ.1 0 30)) + v1) 8 ∧ ((¬ lg_cmp (μ.2.1 15 ((4 * (μ.1 0 30)) + v1).toNatClampNeg) (μ.2.1 0 10) = 0) → w_X4_handHere_46 P2 v1 μ Q) ∧ ((lg_cmp (μ.2.1 15 ((4 * (μ.1 0 30)) + v1).toNatClampNeg) (μ.2.1 0 10) = 0) → Q v1 μ)))))
def w_X4_handHere_2 (v1 : Int32) (μ : WS) (Q : Int32 → WS → Prop) : Prop := ∀ P2 : Int32 → WS → Prop, (∀ (v1 : Int32) (μ : WS), w_X4_handHere_2b  P2 v1 μ Q → P2 v1 μ) → P2 v1 μ
def w_X4_handHere (μ : WS) (Q : Int32 → WS → Prop) : Prop := w_X4_handHere_2 0 μ Q
abbrev rm_X4_handHere : Room := { frames := 0, cells := 0, slots := 0, locals := 0 }
theorem mf_X4_handHere : MFact yX4_handHere 0 rm_X4_handHere := ⟨by decide +kernel, rfl, rfl⟩
set_option maxHeartbeats 4000000 in
theorem met_X4_handHere (l : Launch) (D : va_G) (ac : Nat → ClassId) (ad : Nat → Nat) (Ex : Heap → Prop) (hLay : LayOk ad knM) (hEx : ExOk ad knM Ex) (μ : WS) (Q : Int32 → WS → Prop) (h : w_X4_handHere  μ Q) : CMet l yX4_handHere cX4_handHere 2 (some .int) rm_X4_handHere D ac ad knM Ex [.ref (ad 0)] μ (qI Q) := by
  refine vv_met (lv := [(0, .ref (ad 0))]) (by decide) hLay hEx (Nat.le_of_ble_eq_true rfl) rfl ⟨rfl, rfl⟩ (fun C hC hK hRm hLl hR hM => ?_)
  subst hLl
  have hRo : RoomOk (HPW D ac ad knM Ex (vS C)) (vR C) := HPW.room
  have L46 : ∀ (P2 : Int32 → WS → Prop) (h2 : ∀ (v1 : Int32) (μ : WS), P2 v1 μ → VV C 2 (HPW D ac ad knM Ex (vS C)) (vQ C (QcW D ac ad knM (qI Q)) 0 0 (inLay ad knM)) (μ, ()) 2 [(0, .ref (ad 0)), (1, .int v1)] []) (v1 : Int32) (μ : WS), w_X4_handHere_46 P2 v1 μ Q → VV C 2 (HPW D ac ad knM Ex (vS C)) (vQ C (QcW D ac ad knM (qI Q)) 0 0 (inLay ad knM)) (μ, ()) 46 [(0, .ref (ad 0)), (1, .int v1)] [] := by
    intro P2 h2 v1 μ h
    unfold w_X4_handHere_46 at h
    refine vv_iinc (pl := 1) (v := v1 + 1) (lv' := [(1, .int (v1 + 1)), (0, .ref (ad 0))]) hC dX4_handHere_46 rfl rfl (by decide) rfl ?_
    refine vv_goto (tgt := 2) hC dX4_handHere_49 rfl ?_
    refine vv_lv [1, 0] rfl ?_
    exact h2 _ _ h
  have L2 : ∀ (v1 : Int32) (μ : WS), w_X4_handHere_2  v1 μ Q → VV C 2 (HPW D ac ad knM Ex (vS C)) (vQ C (QcW D ac ad knM (qI Q)) 0 0 (inLay ad knM)) (μ, ()) 2 [(0, .ref (ad 0)), (1, .int v1)] [] := by
    intro  v1 μ h
    refine h (fun v1 μ => VV C 2 (HPW D ac ad knM Ex (vS C)) (vQ C (QcW D ac ad knM (qI Q)) 0 0 (inLay ad knM)) (μ, ()) 2 [(0, .ref (ad 0)), (1, .int v1)] []) ?_
    clear h; intro v1 μ h
    have h2 : ∀ (v1 : Int32) (μ : WS), (fun v1 (μ : WS) => VV C 2 (HPW D ac ad knM Ex (vS C)) (vQ C (QcW D ac ad knM (qI Q)) 0 0 (inLay ad knM)) (μ, ()) 2 [(0, .ref (ad 0)), (1, .int v1)] []) v1 μ → VV C 2 (HPW D ac ad knM Ex (vS C)) (vQ C (QcW D ac ad knM (qI Q)) 0 0 (inLay ad knM)) (μ, ()) 2 [(0, .ref (ad 0)), (1, .int v1)] [] := fun _ _ h => h
    unfold w_X4_handHere_2b at h
    refine vv_iload_n hC dX4_handHere_2 rfl 1 rfl ?_
    refine vv_aload_n hC dX4_handHere_3 rfl 0 rfl ?_
    refine vv_getf hC hR hK fa4_27 0 lm_0 (fm_13 ad _ _ _) dX4_handHere_4 ?_
    refine vv_aload_n hC dX4_handHere_7 rfl 0 rfl ?_
    refine vv_getf hC hR hK fa4_241 0 lm_0 (fm_30 ad _ _ _) dX4_handHere_8 ?_
    obtain ⟨hin, h⟩ := h
    refine vv_iald hC hR hK 5 lm_5 hin dX4_handHere_11 ?_
    refine vv_icmp_ge (tgt := 52) hC dX4_handHere_12 rfl (fun c1 => ?_) (fun c1 => ?_)
    · replace h := h.1 c1
      refine vv_iconst hC dX4_handHere_52 ic_m1 ?_
      exact vv_iret hC hM dX4_handHere_53 h
    · replace h := h.2 c1
      refine vv_aload_n hC dX4_handHere_15 rfl 0 rfl ?_
      refine vv_getf hC hR hK fa4_203 0 lm_0 (fm_8 ad _ _ _) dX4_handHere_16 ?_
      refine vv_iconst hC dX4_handHere_19 ic_2 ?_
      refine vv_icmp_ne (tgt := 46) hC dX4_handHere_20 rfl (fun c2 => ?_) (fun c2 => ?_)
      · replace h := h.1 c2
        exact L46 _ h2 _ _ h
      · replace h := h.2 c2
        refine vv_aload_n hC dX4_handHere_23 rfl 0 rfl ?_
        refine vv_getf hC hR hK fa4_58 0 lm_0 (fm_23 ad _ _ _) dX4_handHere_24 ?_
        refine vv_iconst hC dX4_handHere_27 ic_4 ?_
        refine vv_aload_n hC dX4_handHere_28 rfl 0 rfl ?_
        refine vv_getf hC hR hK fa4_241 0 lm_0 (fm_30 ad _ _ _) dX4_handHere_29 ?_
        refine vv_imul hC dX4_handHere_32 ?_
        refine vv_iload_n hC dX4_handHere_33 rfl 1 rfl ?_
        refine vv_iadd hC dX4_handHere_34 ?_
        obtain ⟨hin, h⟩ := h
        refine vv_lald hC hR hK 15 lm_15 hin dX4_handHere_35 ?_
        refine vv_aload_n hC dX4_handHere_36 rfl 0 rfl ?_
        refine vv_getf hC hR hK fa4_210 0 lm_0 (fm_10 ad _ _ _) dX4_handHere_37 ?_
        refine vv_lcmp hC dX4_handHere_40 ?_
        refine vv_if_ne (tgt := 46) hC dX4_handHere_41 rfl (fun c3 => ?_) (fun c3 => ?_)
        · replace h := h.1 c3
          exact L46 _ h2 _ _ h
        · replace h := h.2 c3
          refine vv_iload_n hC dX4_handHere_44 rfl 1 rfl ?_
          exact vv_iret hC hM dX4_handHere_45 h
  unfold w_X4_handHere at h
  refine vv_iconst hC dX4_handHere_0 ic_0 ?_
  refine vv_istore_n (lv' := [(1, .int 0), (0, .ref (ad 0))]) hC dX4_handHere_1 rfl (by decide) rfl ?_
  refine vv_lv [1, 0] rfl ?_
  exact L2  _ _ h
def w_X4_must (v1 : Int32) (μ : WS) (Q : WS → Prop) : Prop := (w_X4_isGood μ (fun r2 μ1 => ((¬ r2 = 0) → ((v1 = 0) → (w_X4_misplaced μ1 (fun μ5 => Q μ5))) ∧ ((¬ v1 = 0) → (w_X4_goOn μ1 (fun μ7 => Q μ7)))) ∧ ((r2 = 0) → Q μ1)))
abbrev rm_X4_must : Room := { frames := 2, cells := 0, slots := 0, locals := 44 }
theorem mf_X4_must : MFact yX4_must 1 rm_X4_must := ⟨by decide +kernel, rfl, rfl⟩
set_option maxHeartbeats 4000000 in
theorem met_X4_must (l : Launch) (D : va_G) (ac : Nat → ClassId) (ad : Nat → Nat) (Ex : Heap → Prop) (hLay : LayOk ad knM) (hEx : ExOk ad knM Ex) (v1 : Int32) (μ : WS) (Q : WS → Prop) (h : w_X4_must v1 μ Q) : CMet l yX4_must cX4_must 2 none rm_X4_must D ac ad knM Ex [.ref (ad 0), .int v1] μ (qV Q) := by
  refine vv_met (lv := [(0, .ref (ad 0)), (1, .int v1)]) (by decide) hLay hEx (Nat.le_of_ble_eq_true rfl) rfl ⟨rfl, rfl⟩ (fun C hC hK hRm hLl hR hM => ?_)
  subst hLl
  have hRo : RoomOk (HPW D ac ad knM Ex (vS C)) (vR C) := HPW.room
  unfold w_X4_must at h
  refine vv_aload_n hC dX4_must_0 rfl 0 rfl ?_
  refine vv_callVi hC hR hK hRo hRm [] [] (met_X4_isGood (vL C) D ac ad Ex hLay hEx  μ _ h) gw4_231 mf_X4_isGood rfl lm_0 rfl rfl rfl rfl dX4_must_1 (fun r2 μ1 h => ?_)
  refine vv_if_ne (tgt := 8) hC dX4_must_4 rfl (fun c3 => ?_) (fun c3 => ?_)
  · replace h := h.1 c3
    refine vv_iload_n hC dX4_must_8 rfl 1 rfl ?_
    refine vv_if_eq (tgt := 19) hC dX4_must_9 rfl (fun c4 => ?_) (fun c4 => ?_)
    · replace h := h.1 c4
      refine vv_aload_n hC dX4_must_19 rfl 0 rfl ?_
      refine vv_callVv hC hR hK hRo hRm [] [] (met_X4_misplaced (vL C) D ac ad Ex hLay hEx  μ1 _ h) gw4_238 mf_X4_misplaced rfl lm_0 rfl rfl rfl rfl dX4_must_20 (fun μ5 h => ?_)
      exact vv_vret hC hM dX4_must_23 h
    · replace h := h.2 c4
      refine vv_aload_n hC dX4_must_12 rfl 0 rfl ?_
      refine vv_callVv hC hR hK hRo hRm [] [] (met_X4_goOn (vL C) D ac ad Ex hLay hEx  μ1 _ h) gw4_235 mf_X4_goOn rfl lm_0 rfl rfl rfl rfl dX4_must_13 (fun μ7 h => ?_)
      refine vv_goto (tgt := 23) hC dX4_must_16 rfl ?_
      exact vv_vret hC hM dX4_must_23 h
  · replace h := h.2 c3
    exact vv_vret hC hM dX4_must_7 h
def w_X4_pushE (v1 : Int32) (v2 : Int32) (μ : WS) (Q : WS → Prop) : Prop := (vp_in (μ.1 0 33) 90 ∧ (∀ μ1 : WS, μ1 = wset μ 18 (μ.1 0 33).toNatClampNeg v1 → (vp_in (μ1.1 0 33) 90 ∧ (∀ μ2 : WS, μ2 = wset μ1 19 (μ1.1 0 33).toNatClampNeg v2 → (∀ μ3 : WS, μ3 = wset μ2 0 33 ((μ2.1 0 33) + 1) → Q μ3)))))
abbrev rm_X4_pushE : Room := { frames := 0, cells := 0, slots := 0, locals := 0 }
theorem mf_X4_pushE : MFact yX4_pushE 2 rm_X4_pushE := ⟨by decide +kernel, rfl, rfl⟩
set_option maxHeartbeats 4000000 in
theorem met_X4_pushE (l : Launch) (D : va_G) (ac : Nat → ClassId) (ad : Nat → Nat) (Ex : Heap → Prop) (hLay : LayOk ad knM) (hEx : ExOk ad knM Ex) (v1 : Int32) (v2 : Int32) (μ : WS) (Q : WS → Prop) (h : w_X4_pushE v1 v2 μ Q) : CMet l yX4_pushE cX4_pushE 3 none rm_X4_pushE D ac ad knM Ex [.ref (ad 0), .int v1, .int v2] μ (qV Q) := by
  refine vv_met (lv := [(0, .ref (ad 0)), (1, .int v1), (2, .int v2)]) (by decide) hLay hEx (Nat.le_of_ble_eq_true rfl) rfl ⟨rfl, rfl⟩ (fun C hC hK hRm hLl hR hM => ?_)
  subst hLl
  have hRo : RoomOk (HPW D ac ad knM Ex (vS C)) (vR C) := HPW.room
  unfold w_X4_pushE at h
  refine vv_aload_n hC dX4_pushE_0 rfl 0 rfl ?_
  refine vv_getf hC hR hK fa4_68 0 lm_0 (fm_26 ad _ _ _) dX4_pushE_1 ?_
  refine vv_aload_n hC dX4_pushE_4 rfl 0 rfl ?_
  refine vv_getf hC hR hK fa4_293 0 lm_0 (fm_33 ad _ _ _) dX4_pushE_5 ?_
  refine vv_iload_n hC dX4_pushE_8 rfl 1 rfl ?_
  obtain ⟨hin, h⟩ := h
  refine vv_iast hC hR hK 18 lm_18 hin dX4_pushE_9 ?_
  refine vv_st (fun y e => ?_)
  obtain ⟨μ1, _⟩ := y
  have eμ1 := congrArg Prod.fst e
  clear e
  replace h := h μ1 eμ1
  refine vv_aload_n hC dX4_pushE_10 rfl 0 rfl ?_
  refine vv_getf hC hR hK fa4_71 0 lm_0 (fm_27 ad _ _ _) dX4_pushE_11 ?_
  refine vv_aload_n hC dX4_pushE_14 rfl 0 rfl ?_
  refine vv_getf hC hR hK fa4_293 0 lm_0 (fm_33 ad _ _ _) dX4_pushE_15 ?_
  refine vv_iload_n hC dX4_pushE_18 rfl 2 rfl ?_
  obtain ⟨hin, h⟩ := h
  refine vv_iast hC hR hK 19 lm_19 hin dX4_pushE_19 ?_
  refine vv_st (fun y e => ?_)
  obtain ⟨μ2, _⟩ := y
  have eμ2 := congrArg Prod.fst e
  clear e
  replace h := h μ2 eμ2
  refine vv_aload_n hC dX4_pushE_20 rfl 0 rfl ?_
  refine vv_dup hC dX4_pushE_21 rfl ?_
  refine vv_getf hC hR hK fa4_293 0 lm_0 (fm_33 ad _ _ _) dX4_pushE_22 ?_
  refine vv_iconst hC dX4_pushE_25 ic_1 ?_
  refine vv_iadd hC dX4_pushE_26 ?_
  refine vv_puti hC hR hK fa4_293 0 lm_0 fn_33 rfl rfl dX4_pushE_27 ?_
  refine vv_st (fun y e => ?_)
  obtain ⟨μ3, _⟩ := y
  have eμ3 := congrArg Prod.fst e
  clear e
  replace h := h μ3 eμ3
  exact vv_vret hC hM dX4_pushE_30 h
def w_X4_isSignHere (v1 : Int32) (μ : WS) (Q : Int32 → WS → Prop) : Prop := ((¬ μ.1 0 8 = 5) → Q 0 μ) ∧ ((μ.1 0 8 = 5) → (w_X4_sign (μ.1 0 6) μ (fun r3 μ2 => ((¬ r3 = v1) → Q 0 μ2) ∧ ((r3 = v1) → Q 1 μ2))))
abbrev rm_X4_isSignHere : Room := { frames := 1, cells := 0, slots := 0, locals := 21 }
theorem mf_X4_isSignHere : MFact yX4_isSignHere 1 rm_X4_isSignHere := ⟨by decide +kernel, rfl, rfl⟩
set_option maxHeartbeats 4000000 in
theorem met_X4_isSignHere (l : Launch) (D : va_G) (ac : Nat → ClassId) (ad : Nat → Nat) (Ex : Heap → Prop) (hLay : LayOk ad knM) (hEx : ExOk ad knM Ex) (v1 : Int32) (μ : WS) (Q : Int32 → WS → Prop) (h : w_X4_isSignHere v1 μ Q) : CMet l yX4_isSignHere cX4_isSignHere 2 (some .boolean) rm_X4_isSignHere D ac ad knM Ex [.ref (ad 0), .int v1] μ (qI Q) := by
  refine vv_met (lv := [(0, .ref (ad 0)), (1, .int v1)]) (by decide) hLay hEx (Nat.le_of_ble_eq_true rfl) rfl ⟨rfl, rfl⟩ (fun C hC hK hRm hLl hR hM => ?_)
  subst hLl
  have hRo : RoomOk (HPW D ac ad knM Ex (vS C)) (vR C) := HPW.room
  unfold w_X4_isSignHere at h
  refine vv_aload_n hC dX4_isSignHere_0 rfl 0 rfl ?_
  refine vv_getf hC hR hK fa4_203 0 lm_0 (fm_8 ad _ _ _) dX4_isSignHere_1 ?_
  refine vv_iconst hC dX4_isSignHere_4 ic_5 ?_
  refine vv_icmp_ne (tgt := 24) hC dX4_isSignHere_5 rfl (fun c1 => ?_) (fun c1 => ?_)
  · replace h := h.1 c1
    refine vv_iconst hC dX4_isSignHere_24 ic_0 ?_
    exact vv_zret hC hM dX4_isSignHere_25 isB_0 h
  · replace h := h.2 c1
    refine vv_aload_n hC dX4_isSignHere_8 rfl 0 rfl ?_
    refine vv_aload_n hC dX4_isSignHere_9 rfl 0 rfl ?_
    refine vv_getf hC hR hK fa4_196 0 lm_0 (fm_6 ad _ _ _) dX4_isSignHere_10 ?_
    refine vv_callVi hC hR hK hRo hRm [.int (μ.1 0 6)] [] (met_X4_sign (vL C) D ac ad Ex hLay hEx (μ.1 0 6) μ _ h) gw4_199 mf_X4_sign rfl lm_0 rfl rfl rfl rfl dX4_isSignHere_13 (fun r3 μ2 h => ?_)
    refine vv_iload_n hC dX4_isSignHere_16 rfl 1 rfl ?_
    refine vv_icmp_ne (tgt := 24) hC dX4_isSignHere_17 rfl (fun c4 => ?_) (fun c4 => ?_)
    · replace h := h.1 c4
      refine vv_iconst hC dX4_isSignHere_24 ic_0 ?_
      exact vv_zret hC hM dX4_isSignHere_25 isB_0 h
    · replace h := h.2 c4
      refine vv_iconst hC dX4_isSignHere_20 ic_1 ?_
      refine vv_goto (tgt := 25) hC dX4_isSignHere_21 rfl ?_
      exact vv_zret hC hM dX4_isSignHere_25 isB_1 h
def w_X4_wordHere (μ : WS) (Q : Int32 → WS → Prop) : Prop := (w_X4_isWord 1835102827 μ (fun r2 μ1 => ((r2 = 0) → (w_X4_isWord 6840691 μ1 (fun r5 μ4 => ((r5 = 0) → (w_X4_isWord 1818584692 μ4 (fun r8 μ7 => ((r8 = 0) → (w_X4_isWord 491394656372 μ7 (fun r11 μ10 => ((r11 = 0) → (w_X4_isWord 1835101817 μ10 (fun r14 μ13 => ((r14 = 0) → (w_X4_isWord 2036687218 μ13 (fun r17 μ16 => ((r17 = 0) → (w_X4_isWord 1751474548 μ16 (fun r20 μ19 => ((r20 = 0) → (w_X4_isWord 1685217655 μ19 (fun r23 μ22 => ((r23 = 0) → Q 0 μ22) ∧ ((¬ r23 = 0) → Q 100 μ22)))) ∧ ((¬ r20 = 0) → Q 116 μ19)))) ∧ ((¬ r17 = 0) → Q 106 μ16)))) ∧ ((¬ r14 = 0) → Q 121 μ13)))) ∧ ((¬ r11 = 0) → Q 114 μ10)))) ∧ ((¬ r8 = 0) → Q 108 μ7)))) ∧ ((¬ r5 = 0) → Q 104 μ4)))) ∧ ((¬ r2 = 0) → Q 109 μ1)))
abbrev rm_X4_wordHere : Room := { frames := 1, cells := 0, slots := 0, locals := 22 }
theorem mf_X4_wordHere : MFact yX4_wordHere 0 rm_X4_wordHere := ⟨by decide +kernel, rfl, rfl⟩
set_option maxHeartbeats 4000000 in
theorem met_X4_wordHere (l : Launch) (D : va_G) (ac : Nat → ClassId) (ad : Nat → Nat) (Ex : Heap → Prop) (hLay : LayOk ad knM) (hEx : ExOk ad knM Ex) (μ : WS) (Q : Int32 → WS → Prop) (h : w_X4_wordHere  μ Q) : CMet l yX4_wordHere cX4_wordHere 1 (some .int) rm_X4_wordHere D ac ad knM Ex [.ref (ad 0)] μ (qI Q) := by
  refine vv_met (lv := [(0, .ref (ad 0))]) (by decide) hLay hEx (Nat.le_of_ble_eq_true rfl) rfl ⟨rfl, rfl⟩ (fun C hC hK hRm hLl hR hM => ?_)
  subst hLl
  have hRo : RoomOk (HPW D ac ad knM Ex (vS C)) (vR C) := HPW.room
  unfold w_X4_wordHere at h
  refine vv_aload_n hC dX4_wordHere_0 rfl 0 rfl ?_
  refine vv_ldc2 hC q1863 dX4_wordHere_1 ?_
  refine vv_callVi hC hR hK hRo hRm [.long 1835102827] [] (met_X4_isWord (vL C) D ac ad Ex hLay hEx 1835102827 μ _ h) gw4_256 mf_X4_isWord rfl lm_0 rfl rfl rfl rfl dX4_wordHere_4 (fun r2 μ1 h => ?_)
  refine vv_if_eq (tgt := 13) hC dX4_wordHere_7 rfl (fun c3 => ?_) (fun c3 => ?_)
  · replace h := h.1 c3
    refine vv_aload_n hC dX4_wordHere_13 rfl 0 rfl ?_
    refine vv_ldc2 hC q1864 dX4_wordHere_14 ?_
    refine vv_callVi hC hR hK hRo hRm [.long 6840691] [] (met_X4_isWord (vL C) D ac ad Ex hLay hEx 6840691 μ1 _ h) gw4_256 mf_X4_isWord rfl lm_0 rfl rfl rfl rfl dX4_wordHere_17 (fun r5 μ4 h => ?_)
    refine vv_if_eq (tgt := 26) hC dX4_wordHere_20 rfl (fun c6 => ?_) (fun c6 => ?_)
    · replace h := h.1 c6
      refine vv_aload_n hC dX4_wordHere_26 rfl 0 rfl ?_
      refine vv_ldc2 hC q1865 dX4_wordHere_27 ?_
      refine vv_callVi hC hR hK hRo hRm [.long 1818584692] [] (met_X4_isWord (vL C) D ac ad Ex hLay hEx 1818584692 μ4 _ h) gw4_256 mf_X4_isWord rfl lm_0 rfl rfl rfl rfl dX4_wordHere_30 (fun r8 μ7 h => ?_)
      refine vv_if_eq (tgt := 39) hC dX4_wordHere_33 rfl (fun c9 => ?_) (fun c9 => ?_)
      · replace h := h.1 c9
        refine vv_aload_n hC dX4_wordHere_39 rfl 0 rfl ?_
        refine vv_ldc2 hC q1866 dX4_wordHere_40 ?_
        refine vv_callVi hC hR hK hRo hRm [.long 491394656372] [] (met_X4_isWord (vL C) D ac ad Ex hLay hEx 491394656372 μ7 _ h) gw4_256 mf_X4_isWord rfl lm_0 rfl rfl rfl rfl dX4_wordHere_43 (fun r11 μ10 h => ?_)
        refine vv_if_eq (tgt := 52) hC dX4_wordHere_46 rfl (fun c12 => ?_) (fun c12 => ?_)
        · replace h := h.1 c12
          refine vv_aload_n hC dX4_wordHere_52 rfl 0 rfl ?_
          refine vv_ldc2 hC q1867 dX4_wordHere_53 ?_
          refine vv_callVi hC hR hK hRo hRm [.long 1835101817] [] (met_X4_isWord (vL C) D ac ad Ex hLay hEx 1835101817 μ10 _ h) gw4_256 mf_X4_isWord rfl lm_0 rfl rfl rfl rfl dX4_wordHere_56 (fun r14 μ13 h => ?_)
          refine vv_if_eq (tgt := 65) hC dX4_wordHere_59 rfl (fun c15 => ?_) (fun c15 => ?_)
          · replace h := h.1 c15
            refine vv_aload_n hC dX4_wordHere_65 rfl 0 rfl ?_
            refine vv_ldc2 hC q1868 dX4_wordHere_66 ?_
            refine vv_callVi hC hR hK hRo hRm [.long 2036687218] [] (met_X4_isWord (vL C) D ac ad Ex hLay hEx 2036687218 μ13 _ h) gw4_256 mf_X4_isWord rfl lm_0 rfl rfl rfl rfl dX4_wordHere_69 (fun r17 μ16 h => ?_)
            refine vv_if_eq (tgt := 78) hC dX4_wordHere_72 rfl (fun c18 => ?_) (fun c18 => ?_)
            · replace h := h.1 c18
              refine vv_aload_n hC dX4_wordHere_78 rfl 0 rfl ?_
              refine vv_ldc2 hC q1869 dX4_wordHere_79 ?_
              refine vv_callVi hC hR hK hRo hRm [.long 1751474548] [] (met_X4_isWord (vL C) D ac ad Ex hLay hEx 1751474548 μ16 _ h) gw4_256 mf_X4_isWord rfl lm_0 rfl rfl rfl rfl dX4_wordHere_82 (fun r20 μ19 h => ?_)
              refine vv_if_eq (tgt := 91) hC dX4_wordHere_85 rfl (fun c21 => ?_) (fun c21 => ?_)
              · replace h := h.1 c21
                refine vv_aload_n hC dX4_wordHere_91 rfl 0 rfl ?_
                refine vv_ldc2 hC q1862 dX4_wordHere_92 ?_
                refine vv_callVi hC hR hK hRo hRm [.long 1685217655] [] (met_X4_isWord (vL C) D ac ad Ex hLay hEx 1685217655 μ19 _ h) gw4_256 mf_X4_isWord rfl lm_0 rfl rfl rfl rfl dX4_wordHere_95 (fun r23 μ22 h => ?_)
                refine vv_if_eq (tgt := 106) hC dX4_wordHere_98 rfl (fun c24 => ?_) (fun c24 => ?_)
                · replace h := h.1 c24
                  refine vv_iconst hC dX4_wordHere_106 ic_0 ?_
                  exact vv_iret hC hM dX4_wordHere_107 h
                · replace h := h.2 c24
                  refine vv_bipush hC dX4_wordHere_101 bp_100 ?_
                  refine vv_goto (tgt := 107) hC dX4_wordHere_103 rfl ?_
                  exact vv_iret hC hM dX4_wordHere_107 h
              · replace h := h.2 c21
                refine vv_bipush hC dX4_wordHere_88 bp_116 ?_
                exact vv_iret hC hM dX4_wordHere_90 h
            · replace h := h.2 c18
              refine vv_bipush hC dX4_wordHere_75 bp_106 ?_
              exact vv_iret hC hM dX4_wordHere_77 h
          · replace h := h.2 c15
            refine vv_bipush hC dX4_wordHere_62 bp_121 ?_
            exact vv_iret hC hM dX4_wordHere_64 h
        · replace h := h.2 c12
          refine vv_bipush hC dX4_wordHere_49 bp_114 ?_
          exact vv_iret hC hM dX4_wordHere_51 h
      · replace h := h.2 c9
        refine vv_bipush hC dX4_wordHere_36 bp_108 ?_
        exact vv_iret hC hM dX4_wordHere_38 h
    · replace h := h.2 c6
      refine vv_bipush hC dX4_wordHere_23 bp_104 ?_
      exact vv_iret hC hM dX4_wordHere_25 h
  · replace h := h.2 c3
    refine vv_bipush hC dX4_wordHere_10 bp_109 ?_
    exact vv_iret hC hM dX4_wordHere_12 h
def w_X4_emit (v1 : Int32) (v2 : Int32) (μ : WS) (Q : WS → Prop) : Prop := (vp_in (μ.1 0 31) 1120 ∧ (∀ μ1 : WS, μ1 = wset μ 16 (μ.1 0 31).toNatClampNeg v1 → (vp_in (μ1.1 0 31) 1120 ∧ (∀ μ2 : WS, μ2 = wset μ1 17 (μ1.1 0 31).toNatClampNeg v2 → (∀ μ3 : WS, μ3 = wset μ2 0 31 ((μ2.1 0 31) + 1) → Q μ3)))))
abbrev rm_X4_emit : Room := { frames := 0, cells := 0, slots := 0, locals := 0 }
theorem mf_X4_emit : MFact yX4_emit 2 rm_X4_emit := ⟨by decide +kernel, rfl, rfl⟩
set_option maxHeartbeats 4000000 in
theorem met_X4_emit (l : Launch) (D : va_G) (ac : Nat → ClassId) (ad : Nat → Nat) (Ex : Heap → Prop) (hLay : LayOk ad knM) (hEx : ExOk ad knM Ex) (v1 : Int32) (v2 : Int32) (μ : WS) (Q : WS → Prop) (h : w_X4_emit v1 v2 μ Q) : CMet l yX4_emit cX4_emit 3 none rm_X4_emit D ac ad knM Ex [.ref (ad 0), .int v1, .int v2] μ (qV Q) := by
  refine vv_met (lv := [(0, .ref (ad 0)), (1, .int v1), (2, .int v2)]) (by decide) hLay hEx (Nat.le_of_ble_eq_true rfl) rfl ⟨rfl, rfl⟩ (fun C hC hK hRm hLl hR hM => ?_)
  subst hLl
  have hRo : RoomOk (HPW D ac ad knM Ex (vS C)) (vR C) := HPW.room
  unfold w_X4_emit at h
  refine vv_aload_n hC dX4_emit_0 rfl 0 rfl ?_
  refine vv_getf hC hR hK fa4_62 0 lm_0 (fm_24 ad _ _ _) dX4_emit_1 ?_
  refine vv_aload_n hC dX4_emit_4 rfl 0 rfl ?_
  refine vv_getf hC hR hK fa4_244 0 lm_0 (fm_31 ad _ _ _) dX4_emit_5 ?_
  refine vv_iload_n hC dX4_emit_8 rfl 1 rfl ?_
  obtain ⟨hin, h⟩ := h
  refine vv_iast hC hR hK 16 lm_16 hin dX4_emit_9 ?_
  refine vv_st (fun y e => ?_)
  obtain ⟨μ1, _⟩ := y
  have eμ1 := congrArg Prod.fst e
  clear e
  replace h := h μ1 eμ1
  refine vv_aload_n hC dX4_emit_10 rfl 0 rfl ?_
  refine vv_getf hC hR hK fa4_65 0 lm_0 (fm_25 ad _ _ _) dX4_emit_11 ?_
  refine vv_aload_n hC dX4_emit_14 rfl 0 rfl ?_
  refine vv_getf hC hR hK fa4_244 0 lm_0 (fm_31 ad _ _ _) dX4_emit_15 ?_
  refine vv_iload_n hC dX4_emit_18 rfl 2 rfl ?_
  obtain ⟨hin, h⟩ := h
  refine vv_iast hC hR hK 17 lm_17 hin dX4_emit_19 ?_
  refine vv_st (fun y e => ?_)
  obtain ⟨μ2, _⟩ := y
  have eμ2 := congrArg Prod.fst e
  clear e
  replace h := h μ2 eμ2
  refine vv_aload_n hC dX4_emit_20 rfl 0 rfl ?_
  refine vv_dup hC dX4_emit_21 rfl ?_
  refine vv_getf hC hR hK fa4_244 0 lm_0 (fm_31 ad _ _ _) dX4_emit_22 ?_
  refine vv_iconst hC dX4_emit_25 ic_1 ?_
  refine vv_iadd hC dX4_emit_26 ?_
  refine vv_puti hC hR hK fa4_244 0 lm_0 fn_31 rfl rfl dX4_emit_27 ?_
  refine vv_st (fun y e => ?_)
  obtain ⟨μ3, _⟩ := y
  have eμ3 := congrArg Prod.fst e
  clear e
  replace h := h μ3 eμ3
  exact vv_vret hC hM dX4_emit_30 h
def w_X4_unit_233 (s0 : Int32) (μ : WS) (Q : Int32 → WS → Prop) : Prop := (w_X4_pushE s0 126 μ (fun μ35 => (∀ μ37 : WS, μ37 = wset μ35 0 32 ((μ35.1 0 32) + 1) → Q 1 μ37)))
def w_X4_unit_222 (v2 : Int32) (μ : WS) (Q : Int32 → WS → Prop) : Prop := ((v2 = 0) → w_X4_unit_233 7 μ Q) ∧ ((¬ v2 = 0) → w_X4_unit_233 3 μ Q)
def w_X4_unit_263 (s0 : Int32) (v6 : Int32) (μ : WS) (Q : Int32 → WS → Prop) : Prop := (w_X4_emit s0 v6 μ (fun μ32 => Q 0 μ32))
def w_X4_unit_208 (s0 : Int32) (v2 : Int32) (v3 : Int32) (v4 : Int32) (μ : WS) (Q : Int32 → WS → Prop) : Prop := (w_X4_goOn μ (fun μ27 => ((¬ v2 = 0) → w_X4_unit_222 v2 μ27 Q) ∧ ((v2 = 0) → ((v3 = 0) → ((¬ v4 = 0) → w_X4_unit_263 v4 s0 μ27 Q) ∧ ((v4 = 0) → w_X4_unit_263 110 s0 μ27 Q)) ∧ ((¬ v3 = 0) → w_X4_unit_222 v2 μ27 Q))))
def w_X4_unit_191 (s0 : Int32) (s1 : Int32) (v2 : Int32) (v3 : Int32) (v4 : Int32) (μ : WS) (Q : Int32 → WS → Prop) : Prop := (∀ μ25 : WS, μ25 = wset μ 0 34 (s1 + s0) → ((¬ v4 = 0) → w_X4_unit_208 0 v2 v3 v4 μ25 Q) ∧ ((v4 = 0) → w_X4_unit_208 (μ25.1 0 9) v2 v3 v4 μ25 Q))
def w_X4_unit_175 (s0 : Int32) (s1 : Int32) (s2 : Int32) (v2 : Int32) (v3 : Int32) (v4 : Int32) (μ : WS) (Q : Int32 → WS → Prop) : Prop := (vp_in s2 2 ∧ (∀ μ23 : WS, μ23 = wset μ 6 s2.toNatClampNeg (s1 + s0) → ((v2 = 0) → w_X4_unit_191 1 (μ23.1 0 34) v2 v3 v4 μ23 Q) ∧ ((¬ v2 = 0) → w_X4_unit_191 0 (μ23.1 0 34) v2 v3 v4 μ23 Q)))
def w_X4_unit_147 (v2 : Int32) (v3 : Int32) (v4 : Int32) (μ : WS) (Q : Int32 → WS → Prop) : Prop := (w_X4_isGood μ (fun r20 μ19 => ((¬ r20 = 0) → (vp_in (μ19.1 0 30) 2 ∧ ((v2 = 0) → w_X4_unit_175 1 (μ19.1 6 (μ19.1 0 30).toNatClampNeg) (μ19.1 0 30) v2 v3 v4 μ19 Q) ∧ ((¬ v2 = 0) → w_X4_unit_175 0 (μ19.1 6 (μ19.1 0 30).toNatClampNeg) (μ19.1 0 30) v2 v3 v4 μ19 Q))) ∧ ((r20 = 0) → Q 1 μ19)))
def w_X4_unit_143 (v2 : Int32) (v3 : Int32) (v4 : Int32) (μ : WS) (Q : Int32 → WS → Prop) : Prop := (w_X4_misplaced μ (fun μ17 => w_X4_unit_147 v2 v3 v4 μ17 Q))
def w_X4_unit_134 (v2 : Int32) (v3 : Int32) (v4 : Int32) (μ : WS) (Q : Int32 → WS → Prop) : Prop := ((¬ μ.1 0 32 = 7) → w_X4_unit_147 v2 v3 v4 μ Q) ∧ ((μ.1 0 32 = 7) → w_X4_unit_143 v2 v3 v4 μ Q)
def w_X4_unit_126 (v2 : Int32) (v3 : Int32) (v4 : Int32) (μ : WS) (Q : Int32 → WS → Prop) : Prop := ((¬ v2 = 0) → w_X4_unit_134 v2 v3 v4 μ Q) ∧ ((v2 = 0) → ((v3 = 0) → w_X4_unit_147 v2 v3 v4 μ Q) ∧ ((¬ v3 = 0) → w_X4_unit_134 v2 v3 v4 μ Q))
def w_X4_unit_121 (v2 : Int32) (v3 : Int32) (v4 : Int32) (v5 : Int32) (μ : WS) (Q : Int32 → WS → Prop) : Prop := ((¬ v5 = 0) → w_X4_unit_143 v2 v3 v4 μ Q) ∧ ((v5 = 0) → w_X4_unit_126 v2 v3 v4 μ Q)
def w_X4_unit_98 (s0 : Int32) (v2 : Int32) (v3 : Int32) (v4 : Int32) (μ : WS) (Q : Int32 → WS → Prop) : Prop := ((¬ v2 = 0) → w_X4_unit_126 v2 v3 v4 μ Q) ∧ ((v2 = 0) → ((¬ v4 = 0) → w_X4_unit_121 v2 v3 v4 s0 μ Q) ∧ ((v4 = 0) → ((μ.1 0 8 = 4) → w_X4_unit_121 v2 v3 v4 s0 μ Q) ∧ ((¬ μ.1 0 8 = 4) → ((v3 = 0) → w_X4_unit_143 v2 v3 v4 μ Q) ∧ ((¬ v3 = 0) → w_X4_unit_121 v2 v3 v4 s0 μ Q))))
def w_X4_unit_93 (v2 : Int32) (v3 : Int32) (v4 : Int32) (μ : WS) (Q : Int32 → WS → Prop) : Prop := w_X4_unit_98 1 v2 v3 v4 μ Q
def w_X4_unit_56 (s0 : Int32) (μ : WS) (Q : Int32 → WS → Prop) : Prop := (w_X4_isSignHere 40 μ (fun r8 μ7 => (w_X4_wordHere μ7 (fun r10 μ9 => (vp_in (μ9.1 0 30) 2 ∧ ((μ9.1 6 (μ9.1 0 30).toNatClampNeg = 90) → w_X4_unit_93 s0 r8 r10 μ9 Q) ∧ ((¬ μ9.1 6 (μ9.1 0 30).toNatClampNeg = 90) → ((¬ μ9.1 0 34 = 30) → w_X4_unit_98 0 s0 r8 r10 μ9 Q) ∧ ((μ9.1 0 34 = 30) → w_X4_unit_93 s0 r8 r10 μ9 Q)))))))
def w_X4_unit_55 (μ : WS) (Q : Int32 → WS → Prop) : Prop := w_X4_unit_56 0 μ Q
def w_X4_unit_36 (s0 : Int32) (μ : WS) (Q : Int32 → WS → Prop) : Prop := ((s0 = 0) → w_X4_unit_55 μ Q) ∧ ((¬ s0 = 0) → (w_X4_isWord 7237492 μ (fun r5 μ4 => ((r5 = 0) → w_X4_unit_55 μ4 Q) ∧ ((¬ r5 = 0) → w_X4_unit_56 1 μ4 Q))))
def w_X4_unit_31 (μ : WS) (Q : Int32 → WS → Prop) : Prop := w_X4_unit_36 1 μ Q
def w_X4_unit (μ : WS) (Q : Int32 → WS → Prop) : Prop := (vp_in ((μ.1 0 33) - 1) 90 ∧ ((μ.1 18 ((μ.1 0 33) - 1).toNatClampNeg ≤ 3) → w_X4_unit_31 μ Q) ∧ ((¬ μ.1 18 ((μ.1 0 33) - 1).toNatClampNeg ≤ 3) → (vp_in ((μ.1 0 33) - 1) 90 ∧ ((μ.1 18 ((μ.1 0 33) - 1).toNatClampNeg < 7) → w_X4_unit_36 0 μ Q) ∧ ((¬ μ.1 18 ((μ.1 0 33) - 1).toNatClampNeg < 7) → w_X4_unit_31 μ Q))))
abbrev rm_X4_unit : Room := { frames := 2, cells := 0, slots := 0, locals := 44 }
theorem mf_X4_unit : MFact yX4_unit 0 rm_X4_unit := ⟨by decide +kernel, rfl, rfl⟩
set_option maxHeartbeats 4000000 in
theorem met_X4_unit (l : Launch) (D : va_G) (ac : Nat → ClassId) (ad : Nat → Nat) (Ex : Heap → Prop) (hLay : LayOk ad knM) (hEx : ExOk ad knM Ex) (μ : WS) (Q : Int32 → WS → Prop) (h : w_X4_unit  μ Q) : CMet l yX4_unit cX4_unit 7 (some .boolean) rm_X4_unit D ac ad knM Ex [.ref (ad 0)] μ (qI Q) := by
  refine vv_met (lv := [(0, .ref (ad 0))]) (by decide) hLay hEx (Nat.le_of_ble_eq_true rfl) rfl ⟨rfl, rfl⟩ (fun C hC hK hRm hLl hR hM => ?_)
  subst hLl
  have hRo : RoomOk (HPW D ac ad knM Ex (vS C)) (vR C) := HPW.room
  have L233 : ∀ (s0 : Int32) (μ : WS), w_X4_unit_233  s0 μ Q → VV C 7 (HPW D ac ad knM Ex (vS C)) (vQ C (QcW D ac ad knM (qI Q)) 0 0 (inLay ad knM)) (μ, ()) 233 [(0, .ref (ad 0))] [.int s0, .ref (ad 0)] := by
    intro  s0 μ h
    unfold w_X4_unit_233 at h
    refine vv_bipush hC dX4_unit_233 bp_126 ?_
    refine vv_callVv hC hR hK hRo hRm [.int s0, .int 126] [] (met_X4_pushE (vL C) D ac ad Ex hLay hEx s0 126 μ _ h) gw4_299 mf_X4_pushE rfl lm_0 rfl rfl rfl rfl dX4_unit_235 (fun μ35 h => ?_)
    refine vv_aload_n hC dX4_unit_238 rfl 0 rfl ?_
    refine vv_dup hC dX4_unit_239 rfl ?_
    refine vv_getf hC hR hK fa4_296 0 lm_0 (fm_32 ad _ _ _) dX4_unit_240 ?_
    refine vv_iconst hC dX4_unit_243 ic_1 ?_
    refine vv_iadd hC dX4_unit_244 ?_
    refine vv_puti hC hR hK fa4_296 0 lm_0 fn_32 rfl rfl dX4_unit_245 ?_
    refine vv_st (fun y e => ?_)
    obtain ⟨μ37, _⟩ := y
    have eμ37 := congrArg Prod.fst e
    clear e
    replace h := h μ37 eμ37
    refine vv_iconst hC dX4_unit_248 ic_1 ?_
    exact vv_zret hC hM dX4_unit_249 isB_1 h
  have L222 : ∀ (v2 : Int32) (μ : WS), w_X4_unit_222  v2 μ Q → VV C 7 (HPW D ac ad knM Ex (vS C)) (vQ C (QcW D ac ad knM (qI Q)) 0 0 (inLay ad knM)) (μ, ()) 222 [(0, .ref (ad 0)), (2, .int v2)] [] := by
    intro  v2 μ h
    unfold w_X4_unit_222 at h
    refine vv_aload_n hC dX4_unit_222 rfl 0 rfl ?_
    refine vv_iload_n hC dX4_unit_223 rfl 1 rfl ?_
    refine vv_if_eq (tgt := 231) hC dX4_unit_224 rfl (fun c34 => ?_) (fun c34 => ?_)
    · replace h := h.1 c34
      refine vv_bipush hC dX4_unit_231 bp_7 ?_
      refine vv_lv [0] rfl ?_
      exact L233  _ _ h
    · replace h := h.2 c34
      refine vv_iconst hC dX4_unit_227 ic_3 ?_
      refine vv_goto (tgt := 233) hC dX4_unit_228 rfl ?_
      refine vv_lv [0] rfl ?_
      exact L233  _ _ h
  have L263 : ∀ (s0 : Int32) (v6 : Int32) (μ : WS), w_X4_unit_263  s0 v6 μ Q → VV C 7 (HPW D ac ad knM Ex (vS C)) (vQ C (QcW D ac ad knM (qI Q)) 0 0 (inLay ad knM)) (μ, ()) 263 [(6, .int v6)] [.int s0, .ref (ad 0)] := by
    intro  s0 v6 μ h
    unfold w_X4_unit_263 at h
    refine vv_iload hC dX4_unit_263 0 rfl ?_
    refine vv_callVv hC hR hK hRo hRm [.int s0, .int v6] [] (met_X4_emit (vL C) D ac ad Ex hLay hEx s0 v6 μ _ h) gw4_311 mf_X4_emit rfl lm_0 rfl rfl rfl rfl dX4_unit_265 (fun μ32 h => ?_)
    refine vv_iconst hC dX4_unit_268 ic_0 ?_
    exact vv_zret hC hM dX4_unit_269 isB_0 h
  have L208 : ∀ (s0 : Int32) (v2 : Int32) (v3 : Int32) (v4 : Int32) (μ : WS), w_X4_unit_208  s0 v2 v3 v4 μ Q → VV C 7 (HPW D ac ad knM Ex (vS C)) (vQ C (QcW D ac ad knM (qI Q)) 0 0 (inLay ad knM)) (μ, ()) 208 [(0, .ref (ad 0)), (2, .int v2), (3, .int v3), (4, .int v4)] [.int s0] := by
    intro  s0 v2 v3 v4 μ h
    unfold w_X4_unit_208 at h
    refine vv_istore (lv' := [(6, .int s0), (0, .ref (ad 0)), (2, .int v2), (3, .int v3), (4, .int v4)]) hC dX4_unit_208 (by decide) rfl ?_
    refine vv_aload_n hC dX4_unit_210 rfl 1 rfl ?_
    refine vv_callVv hC hR hK hRo hRm [] [] (met_X4_goOn (vL C) D ac ad Ex hLay hEx  μ _ h) gw4_235 mf_X4_goOn rfl lm_0 rfl rfl rfl rfl dX4_unit_211 (fun μ27 h => ?_)
    refine vv_iload_n hC dX4_unit_214 rfl 2 rfl ?_
    refine vv_if_ne (tgt := 222) hC dX4_unit_215 rfl (fun c29 => ?_) (fun c29 => ?_)
    · replace h := h.1 c29
      refine vv_lv [1, 2] rfl ?_
      exact L222  _ _ h
    · replace h := h.2 c29
      refine vv_iload_n hC dX4_unit_218 rfl 3 rfl ?_
      refine vv_if_eq (tgt := 250) hC dX4_unit_219 rfl (fun c30 => ?_) (fun c30 => ?_)
      · replace h := h.1 c30
        refine vv_aload_n hC dX4_unit_250 rfl 1 rfl ?_
        refine vv_iload hC dX4_unit_251 4 rfl ?_
        refine vv_if_ne (tgt := 261) hC dX4_unit_253 rfl (fun c31 => ?_) (fun c31 => ?_)
        · replace h := h.1 c31
          refine vv_iload hC dX4_unit_261 4 rfl ?_
          refine vv_lv [0] rfl ?_
          exact L263  _ _ _ h
        · replace h := h.2 c31
          refine vv_bipush hC dX4_unit_256 bp_110 ?_
          refine vv_goto (tgt := 263) hC dX4_unit_258 rfl ?_
          refine vv_lv [0] rfl ?_
          exact L263  _ _ _ h
      · replace h := h.2 c30
        refine vv_lv [1, 2] rfl ?_
        exact L222  _ _ h
  have L191 : ∀ (s0 : Int32) (s1 : Int32) (v2 : Int32) (v3 : Int32) (v4 : Int32) (μ : WS), w_X4_unit_191  s0 s1 v2 v3 v4 μ Q → VV C 7 (HPW D ac ad knM Ex (vS C)) (vQ C (QcW D ac ad knM (qI Q)) 0 0 (inLay ad knM)) (μ, ()) 191 [(0, .ref (ad 0)), (2, .int v2), (3, .int v3), (4, .int v4)] [.int s0, .int s1, .ref (ad 0)] := by
    intro  s0 s1 v2 v3 v4 μ h
    unfold w_X4_unit_191 at h
    refine vv_iadd hC dX4_unit_191 ?_
    refine vv_puti hC hR hK fa4_287 0 lm_0 fn_34 rfl rfl dX4_unit_192 ?_
    refine vv_st (fun y e => ?_)
    obtain ⟨μ25, _⟩ := y
    have eμ25 := congrArg Prod.fst e
    clear e
    replace h := h μ25 eμ25
    refine vv_iload hC dX4_unit_195 3 rfl ?_
    refine vv_if_ne (tgt := 207) hC dX4_unit_197 rfl (fun c26 => ?_) (fun c26 => ?_)
    · replace h := h.1 c26
      refine vv_iconst hC dX4_unit_207 ic_0 ?_
      exact L208  _ _ _ _ _ h
    · replace h := h.2 c26
      refine vv_aload_n hC dX4_unit_200 rfl 0 rfl ?_
      refine vv_getf hC hR hK fa4_221 0 lm_0 (fm_9 ad _ _ _) dX4_unit_201 ?_
      refine vv_goto (tgt := 208) hC dX4_unit_204 rfl ?_
      exact L208  _ _ _ _ _ h
  have L175 : ∀ (s0 : Int32) (s1 : Int32) (s2 : Int32) (v2 : Int32) (v3 : Int32) (v4 : Int32) (μ : WS), w_X4_unit_175  s0 s1 s2 v2 v3 v4 μ Q → VV C 7 (HPW D ac ad knM Ex (vS C)) (vQ C (QcW D ac ad knM (qI Q)) 0 0 (inLay ad knM)) (μ, ()) 175 [(0, .ref (ad 0)), (2, .int v2), (3, .int v3), (4, .int v4)] [.int s0, .int s1, .int s2, .ref (ad 6)] := by
    intro  s0 s1 s2 v2 v3 v4 μ h
    unfold w_X4_unit_175 at h
    refine vv_iadd hC dX4_unit_175 ?_
    obtain ⟨hin, h⟩ := h
    refine vv_iast hC hR hK 6 lm_6 hin dX4_unit_176 ?_
    refine vv_st (fun y e => ?_)
    obtain ⟨μ23, _⟩ := y
    have eμ23 := congrArg Prod.fst e
    clear e
    replace h := h μ23 eμ23
    refine vv_aload_n hC dX4_unit_177 rfl 0 rfl ?_
    refine vv_dup hC dX4_unit_178 rfl ?_
    refine vv_getf hC hR hK fa4_287 0 lm_0 (fm_34 ad _ _ _) dX4_unit_179 ?_
    refine vv_iload_n hC dX4_unit_182 rfl 1 rfl ?_
    refine vv_if_eq (tgt := 190) hC dX4_unit_183 rfl (fun c24 => ?_) (fun c24 => ?_)
    · replace h := h.1 c24
      refine vv_iconst hC dX4_unit_190 ic_1 ?_
      exact L191  _ _ _ _ _ _ h
    · replace h := h.2 c24
      refine vv_iconst hC dX4_unit_186 ic_0 ?_
      refine vv_goto (tgt := 191) hC dX4_unit_187 rfl ?_
      exact L191  _ _ _ _ _ _ h
  have L147 : ∀ (v2 : Int32) (v3 : Int32) (v4 : Int32) (μ : WS), w_X4_unit_147  v2 v3 v4 μ Q → VV C 7 (HPW D ac ad knM Ex (vS C)) (vQ C (QcW D ac ad knM (qI Q)) 0 0 (inLay ad knM)) (μ, ()) 147 [(0, .ref (ad 0)), (2, .int v2), (3, .int v3), (4, .int v4)] [] := by
    intro  v2 v3 v4 μ h
    unfold w_X4_unit_147 at h
    refine vv_aload_n hC dX4_unit_147 rfl 0 rfl ?_
    refine vv_callVi hC hR hK hRo hRm [] [] (met_X4_isGood (vL C) D ac ad Ex hLay hEx  μ _ h) gw4_231 mf_X4_isGood rfl lm_0 rfl rfl rfl rfl dX4_unit_148 (fun r20 μ19 h => ?_)
    refine vv_if_ne (tgt := 156) hC dX4_unit_151 rfl (fun c21 => ?_) (fun c21 => ?_)
    · replace h := h.1 c21
      refine vv_aload_n hC dX4_unit_156 rfl 0 rfl ?_
      refine vv_getf hC hR hK fa4_30 0 lm_0 (fm_14 ad _ _ _) dX4_unit_157 ?_
      refine vv_aload_n hC dX4_unit_160 rfl 0 rfl ?_
      refine vv_getf hC hR hK fa4_241 0 lm_0 (fm_30 ad _ _ _) dX4_unit_161 ?_
      refine vv_dup2 hC dX4_unit_164 rfl rfl ?_
      obtain ⟨hin, h⟩ := h
      refine vv_iald hC hR hK 6 lm_6 hin dX4_unit_165 ?_
      refine vv_iload_n hC dX4_unit_166 rfl 1 rfl ?_
      refine vv_if_eq (tgt := 174) hC dX4_unit_167 rfl (fun c22 => ?_) (fun c22 => ?_)
      · replace h := h.1 c22
        refine vv_iconst hC dX4_unit_174 ic_1 ?_
        exact L175  _ _ _ _ _ _ _ h
      · replace h := h.2 c22
        refine vv_iconst hC dX4_unit_170 ic_0 ?_
        refine vv_goto (tgt := 175) hC dX4_unit_171 rfl ?_
        exact L175  _ _ _ _ _ _ _ h
    · replace h := h.2 c21
      refine vv_iconst hC dX4_unit_154 ic_1 ?_
      exact vv_zret hC hM dX4_unit_155 isB_1 h
  have L143 : ∀ (v2 : Int32) (v3 : Int32) (v4 : Int32) (μ : WS), w_X4_unit_143  v2 v3 v4 μ Q → VV C 7 (HPW D ac ad knM Ex (vS C)) (vQ C (QcW D ac ad knM (qI Q)) 0 0 (inLay ad knM)) (μ, ()) 143 [(0, .ref (ad 0)), (2, .int v2), (3, .int v3), (4, .int v4)] [] := by
    intro  v2 v3 v4 μ h
    unfold w_X4_unit_143 at h
    refine vv_aload_n hC dX4_unit_143 rfl 0 rfl ?_
    refine vv_callVv hC hR hK hRo hRm [] [] (met_X4_misplaced (vL C) D ac ad Ex hLay hEx  μ _ h) gw4_238 mf_X4_misplaced rfl lm_0 rfl rfl rfl rfl dX4_unit_144 (fun μ17 h => ?_)
    exact L147  _ _ _ _ h
  have L134 : ∀ (v2 : Int32) (v3 : Int32) (v4 : Int32) (μ : WS), w_X4_unit_134  v2 v3 v4 μ Q → VV C 7 (HPW D ac ad knM Ex (vS C)) (vQ C (QcW D ac ad knM (qI Q)) 0 0 (inLay ad knM)) (μ, ()) 134 [(0, .ref (ad 0)), (2, .int v2), (3, .int v3), (4, .int v4)] [] := by
    intro  v2 v3 v4 μ h
    unfold w_X4_unit_134 at h
    refine vv_aload_n hC dX4_unit_134 rfl 0 rfl ?_
    refine vv_getf hC hR hK fa4_296 0 lm_0 (fm_32 ad _ _ _) dX4_unit_135 ?_
    refine vv_bipush hC dX4_unit_138 bp_7 ?_
    refine vv_icmp_ne (tgt := 147) hC dX4_unit_140 rfl (fun c41 => ?_) (fun c41 => ?_)
    · replace h := h.1 c41
      exact L147  _ _ _ _ h
    · replace h := h.2 c41
      exact L143  _ _ _ _ h
  have L126 : ∀ (v2 : Int32) (v3 : Int32) (v4 : Int32) (μ : WS), w_X4_unit_126  v2 v3 v4 μ Q → VV C 7 (HPW D ac ad knM Ex (vS C)) (vQ C (QcW D ac ad knM (qI Q)) 0 0 (inLay ad knM)) (μ, ()) 126 [(0, .ref (ad 0)), (2, .int v2), (3, .int v3), (4, .int v4)] [] := by
    intro  v2 v3 v4 μ h
    unfold w_X4_unit_126 at h
    refine vv_iload_n hC dX4_unit_126 rfl 1 rfl ?_
    refine vv_if_ne (tgt := 134) hC dX4_unit_127 rfl (fun c39 => ?_) (fun c39 => ?_)
    · replace h := h.1 c39
      exact L134  _ _ _ _ h
    · replace h := h.2 c39
      refine vv_iload_n hC dX4_unit_130 rfl 2 rfl ?_
      refine vv_if_eq (tgt := 147) hC dX4_unit_131 rfl (fun c40 => ?_) (fun c40 => ?_)
      · replace h := h.1 c40
        exact L147  _ _ _ _ h
      · replace h := h.2 c40
        exact L134  _ _ _ _ h
  have L121 : ∀ (v2 : Int32) (v3 : Int32) (v4 : Int32) (v5 : Int32) (μ : WS), w_X4_unit_121  v2 v3 v4 v5 μ Q → VV C 7 (HPW D ac ad knM Ex (vS C)) (vQ C (QcW D ac ad knM (qI Q)) 0 0 (inLay ad knM)) (μ, ()) 121 [(0, .ref (ad 0)), (2, .int v2), (3, .int v3), (4, .int v4), (5, .int v5)] [] := by
    intro  v2 v3 v4 v5 μ h
    unfold w_X4_unit_121 at h
    refine vv_iload hC dX4_unit_121 4 rfl ?_
    refine vv_if_ne (tgt := 143) hC dX4_unit_123 rfl (fun c38 => ?_) (fun c38 => ?_)
    · replace h := h.1 c38
      refine vv_lv [0, 1, 2, 3] rfl ?_
      exact L143  _ _ _ _ h
    · replace h := h.2 c38
      refine vv_lv [0, 1, 2, 3] rfl ?_
      exact L126  _ _ _ _ h
  have L98 : ∀ (s0 : Int32) (v2 : Int32) (v3 : Int32) (v4 : Int32) (μ : WS), w_X4_unit_98  s0 v2 v3 v4 μ Q → VV C 7 (HPW D ac ad knM Ex (vS C)) (vQ C (QcW D ac ad knM (qI Q)) 0 0 (inLay ad knM)) (μ, ()) 98 [(0, .ref (ad 0)), (2, .int v2), (3, .int v3), (4, .int v4)] [.int s0] := by
    intro  s0 v2 v3 v4 μ h
    unfold w_X4_unit_98 at h
    refine vv_istore (lv' := [(5, .int s0), (0, .ref (ad 0)), (2, .int v2), (3, .int v3), (4, .int v4)]) hC dX4_unit_98 (by decide) rfl ?_
    refine vv_iload_n hC dX4_unit_100 rfl 2 rfl ?_
    refine vv_if_ne (tgt := 126) hC dX4_unit_101 rfl (fun c13 => ?_) (fun c13 => ?_)
    · replace h := h.1 c13
      refine vv_lv [1, 2, 3, 4] rfl ?_
      exact L126  _ _ _ _ h
    · replace h := h.2 c13
      refine vv_iload hC dX4_unit_104 4 rfl ?_
      refine vv_if_ne (tgt := 121) hC dX4_unit_106 rfl (fun c14 => ?_) (fun c14 => ?_)
      · replace h := h.1 c14
        refine vv_lv [1, 2, 3, 4, 0] rfl ?_
        exact L121  _ _ _ _ _ h
      · replace h := h.2 c14
        refine vv_aload_n hC dX4_unit_109 rfl 1 rfl ?_
        refine vv_getf hC hR hK fa4_203 0 lm_0 (fm_8 ad _ _ _) dX4_unit_110 ?_
        refine vv_iconst hC dX4_unit_113 ic_4 ?_
        refine vv_icmp_eq (tgt := 121) hC dX4_unit_114 rfl (fun c15 => ?_) (fun c15 => ?_)
        · replace h := h.1 c15
          refine vv_lv [1, 2, 3, 4, 0] rfl ?_
          exact L121  _ _ _ _ _ h
        · replace h := h.2 c15
          refine vv_iload_n hC dX4_unit_117 rfl 3 rfl ?_
          refine vv_if_eq (tgt := 143) hC dX4_unit_118 rfl (fun c16 => ?_) (fun c16 => ?_)
          · replace h := h.1 c16
            refine vv_lv [1, 2, 3, 4] rfl ?_
            exact L143  _ _ _ _ h
          · replace h := h.2 c16
            refine vv_lv [1, 2, 3, 4, 0] rfl ?_
            exact L121  _ _ _ _ _ h
  have L93 : ∀ (v2 : Int32) (v3 : Int32) (v4 : Int32) (μ : WS), w_X4_unit_93  v2 v3 v4 μ Q → VV C 7 (HPW D ac ad knM Ex (vS C)) (vQ C (QcW D ac ad knM (qI Q)) 0 0 (inLay ad knM)) (μ, ()) 93 [(0, .ref (ad 0)), (2, .int v2), (3, .int v3), (4, .int v4)] [] := by
    intro  v2 v3 v4 μ h
    unfold w_X4_unit_93 at h
    refine vv_iconst hC dX4_unit_93 ic_1 ?_
    refine vv_goto (tgt := 98) hC dX4_unit_94 rfl ?_
    exact L98  _ _ _ _ _ h
  have L56 : ∀ (s0 : Int32) (μ : WS), w_X4_unit_56  s0 μ Q → VV C 7 (HPW D ac ad knM Ex (vS C)) (vQ C (QcW D ac ad knM (qI Q)) 0 0 (inLay ad knM)) (μ, ()) 56 [(0, .ref (ad 0))] [.int s0] := by
    intro  s0 μ h
    unfold w_X4_unit_56 at h
    refine vv_istore_n (lv' := [(2, .int s0), (0, .ref (ad 0))]) hC dX4_unit_56 rfl (by decide) rfl ?_
    refine vv_aload_n hC dX4_unit_57 rfl 1 rfl ?_
    refine vv_bipush hC dX4_unit_58 bp_40 ?_
    refine vv_callVi hC hR hK hRo hRm [.int 40] [] (met_X4_isSignHere (vL C) D ac ad Ex hLay hEx 40 μ _ h) gw4_272 mf_X4_isSignHere rfl lm_0 rfl rfl rfl rfl dX4_unit_60 (fun r8 μ7 h => ?_)
    refine vv_istore_n (lv' := [(3, .int r8), (2, .int s0), (0, .ref (ad 0))]) hC dX4_unit_63 rfl (by decide) rfl ?_
    refine vv_aload_n hC dX4_unit_64 rfl 2 rfl ?_
    refine vv_callVi hC hR hK hRo hRm [] [] (met_X4_wordHere (vL C) D ac ad Ex hLay hEx  μ7 _ h) gw4_308 mf_X4_wordHere rfl lm_0 rfl rfl rfl rfl dX4_unit_65 (fun r10 μ9 h => ?_)
    refine vv_istore (lv' := [(4, .int r10), (3, .int r8), (2, .int s0), (0, .ref (ad 0))]) hC dX4_unit_68 (by decide) rfl ?_
    refine vv_aload_n hC dX4_unit_70 rfl 3 rfl ?_
    refine vv_getf hC hR hK fa4_30 0 lm_0 (fm_14 ad _ _ _) dX4_unit_71 ?_
    refine vv_aload_n hC dX4_unit_74 rfl 3 rfl ?_
    refine vv_getf hC hR hK fa4_241 0 lm_0 (fm_30 ad _ _ _) dX4_unit_75 ?_
    obtain ⟨hin, h⟩ := h
    refine vv_iald hC hR hK 6 lm_6 hin dX4_unit_78 ?_
    refine vv_bipush hC dX4_unit_79 bp_90 ?_
    refine vv_icmp_eq (tgt := 93) hC dX4_unit_81 rfl (fun c11 => ?_) (fun c11 => ?_)
    · replace h := h.1 c11
      refine vv_lv [3, 2, 1, 0] rfl ?_
      exact L93  _ _ _ _ h
    · replace h := h.2 c11
      refine vv_aload_n hC dX4_unit_84 rfl 3 rfl ?_
      refine vv_getf hC hR hK fa4_287 0 lm_0 (fm_34 ad _ _ _) dX4_unit_85 ?_
      refine vv_bipush hC dX4_unit_88 bp_30 ?_
      refine vv_icmp_ne (tgt := 97) hC dX4_unit_90 rfl (fun c12 => ?_) (fun c12 => ?_)
      · replace h := h.1 c12
        refine vv_iconst hC dX4_unit_97 ic_0 ?_
        refine vv_lv [3, 2, 1, 0] rfl ?_
        exact L98  _ _ _ _ _ h
      · replace h := h.2 c12
        refine vv_lv [3, 2, 1, 0] rfl ?_
        exact L93  _ _ _ _ h
  have L55 : ∀ (μ : WS), w_X4_unit_55   μ Q → VV C 7 (HPW D ac ad knM Ex (vS C)) (vQ C (QcW D ac ad knM (qI Q)) 0 0 (inLay ad knM)) (μ, ()) 55 [(0, .ref (ad 0))] [] := by
    intro   μ h
    unfold w_X4_unit_55 at h
    refine vv_iconst hC dX4_unit_55 ic_0 ?_
    exact L56  _ _ h
  have L36 : ∀ (s0 : Int32) (μ : WS), w_X4_unit_36  s0 μ Q → VV C 7 (HPW D ac ad knM Ex (vS C)) (vQ C (QcW D ac ad knM (qI Q)) 0 0 (inLay ad knM)) (μ, ()) 36 [(0, .ref (ad 0))] [.int s0] := by
    intro  s0 μ h
    unfold w_X4_unit_36 at h
    refine vv_istore_n (lv' := [(1, .int s0), (0, .ref (ad 0))]) hC dX4_unit_36 rfl (by decide) rfl ?_
    refine vv_iload_n hC dX4_unit_37 rfl 0 rfl ?_
    refine vv_if_eq (tgt := 55) hC dX4_unit_38 rfl (fun c3 => ?_) (fun c3 => ?_)
    · replace h := h.1 c3
      refine vv_lv [1] rfl ?_
      exact L55  _ h
    · replace h := h.2 c3
      refine vv_aload_n hC dX4_unit_41 rfl 1 rfl ?_
      refine vv_ldc2 hC q1872 dX4_unit_42 ?_
      refine vv_callVi hC hR hK hRo hRm [.long 7237492] [] (met_X4_isWord (vL C) D ac ad Ex hLay hEx 7237492 μ _ h) gw4_256 mf_X4_isWord rfl lm_0 rfl rfl rfl rfl dX4_unit_45 (fun r5 μ4 h => ?_)
      refine vv_if_eq (tgt := 55) hC dX4_unit_48 rfl (fun c6 => ?_) (fun c6 => ?_)
      · replace h := h.1 c6
        refine vv_lv [1] rfl ?_
        exact L55  _ h
      · replace h := h.2 c6
        refine vv_iconst hC dX4_unit_51 ic_1 ?_
        refine vv_goto (tgt := 56) hC dX4_unit_52 rfl ?_
        refine vv_lv [1] rfl ?_
        exact L56  _ _ h
  have L31 : ∀ (μ : WS), w_X4_unit_31   μ Q → VV C 7 (HPW D ac ad knM Ex (vS C)) (vQ C (QcW D ac ad knM (qI Q)) 0 0 (inLay ad knM)) (μ, ()) 31 [(0, .ref (ad 0))] [] := by
    intro   μ h
    unfold w_X4_unit_31 at h
    refine vv_iconst hC dX4_unit_31 ic_1 ?_
    refine vv_goto (tgt := 36) hC dX4_unit_32 rfl ?_
    exact L36  _ _ h
  unfold w_X4_unit at h
  refine vv_aload_n hC dX4_unit_0 rfl 0 rfl ?_
  refine vv_getf hC hR hK fa4_68 0 lm_0 (fm_26 ad _ _ _) dX4_unit_1 ?_
  refine vv_aload_n hC dX4_unit_4 rfl 0 rfl ?_
  refine vv_getf hC hR hK fa4_293 0 lm_0 (fm_33 ad _ _ _) dX4_unit_5 ?_
  refine vv_iconst hC dX4_unit_8 ic_1 ?_
  refine vv_isub hC dX4_unit_9 ?_
  obtain ⟨hin, h⟩ := h
  refine vv_iald hC hR hK 18 lm_18 hin dX4_unit_10 ?_
  refine vv_iconst hC dX4_unit_11 ic_3 ?_
  refine vv_icmp_le (tgt := 31) hC dX4_unit_12 rfl (fun c1 => ?_) (fun c1 => ?_)
  · replace h := h.1 c1
    exact L31  _ h
  · replace h := h.2 c1
    refine vv_aload_n hC dX4_unit_15 rfl 0 rfl ?_
    refine vv_getf hC hR hK fa4_68 0 lm_0 (fm_26 ad _ _ _) dX4_unit_16 ?_
    refine vv_aload_n hC dX4_unit_19 rfl 0 rfl ?_
    refine vv_getf hC hR hK fa4_293 0 lm_0 (fm_33 ad _ _ _) dX4_unit_20 ?_
    refine vv_iconst hC dX4_unit_23 ic_1 ?_
    refine vv_isub hC dX4_unit_24 ?_
    obtain ⟨hin, h⟩ := h
    refine vv_iald hC hR hK 18 lm_18 hin dX4_unit_25 ?_
    refine vv_bipush hC dX4_unit_26 bp_7 ?_
    refine vv_icmp_lt (tgt := 35) hC dX4_unit_28 rfl (fun c2 => ?_) (fun c2 => ?_)
    · replace h := h.1 c2
      refine vv_iconst hC dX4_unit_35 ic_0 ?_
      exact L36  _ _ h
    · replace h := h.2 c2
      exact L31  _ h
def w_X4_rankHere (μ : WS) (Q : Int32 → WS → Prop) : Prop := (w_X4_isWord 6385252 μ (fun r2 μ1 => ((r2 = 0) → (w_X4_isWord 28530 μ1 (fun r5 μ4 => ((r5 = 0) → (w_X4_isSignHere 60 μ4 (fun r8 μ7 => ((¬ r8 = 0) → Q 4 μ7) ∧ ((r8 = 0) → (w_X4_isSignHere 62 μ7 (fun r11 μ10 => ((¬ r11 = 0) → Q 4 μ10) ∧ ((r11 = 0) → (w_X4_isSignHere 61 μ10 (fun r14 μ13 => ((r14 = 0) → (w_X4_isSignHere 43 μ13 (fun r17 μ16 => ((¬ r17 = 0) → Q 5 μ16) ∧ ((r17 = 0) → (w_X4_isSignHere 45 μ16 (fun r20 μ19 => ((r20 = 0) → (w_X4_isSignHere 42 μ19 (fun r23 μ22 => ((¬ r23 = 0) → Q 6 μ22) ∧ ((r23 = 0) → (w_X4_isSignHere 47 μ22 (fun r26 μ25 => ((¬ r26 = 0) → Q 6 μ25) ∧ ((r26 = 0) → (w_X4_isSignHere 37 μ25 (fun r29 μ28 => ((r29 = 0) → Q 0 μ28) ∧ ((¬ r29 = 0) → Q 6 μ28)))))))))) ∧ ((¬ r20 = 0) → Q 5 μ19))))))) ∧ ((¬ r14 = 0) → Q 4 μ13)))))))))) ∧ ((¬ r5 = 0) → Q 1 μ4)))) ∧ ((¬ r2 = 0) → Q 2 μ1)))
abbrev rm_X4_rankHere : Room := { frames := 2, cells := 0, slots := 0, locals := 42 }
theorem mf_X4_rankHere : MFact yX4_rankHere 0 rm_X4_rankHere := ⟨by decide +kernel, rfl, rfl⟩
set_option maxHeartbeats 4000000 in
theorem met_X4_rankHere (l : Launch) (D : va_G) (ac : Nat → ClassId) (ad : Nat → Nat) (Ex : Heap → Prop) (hLay : LayOk ad knM) (hEx : ExOk ad knM Ex) (μ : WS) (Q : Int32 → WS → Prop) (h : w_X4_rankHere  μ Q) : CMet l yX4_rankHere cX4_rankHere 1 (some .int) rm_X4_rankHere D ac ad knM Ex [.ref (ad 0)] μ (qI Q) := by
  refine vv_met (lv := [(0, .ref (ad 0))]) (by decide) hLay hEx (Nat.le_of_ble_eq_true rfl) rfl ⟨rfl, rfl⟩ (fun C hC hK hRm hLl hR hM => ?_)
  subst hLl
  have hRo : RoomOk (HPW D ac ad knM Ex (vS C)) (vR C) := HPW.room
  unfold w_X4_rankHere at h
  refine vv_aload_n hC dX4_rankHere_0 rfl 0 rfl ?_
  refine vv_ldc2 hC q1871 dX4_rankHere_1 ?_
  refine vv_callVi hC hR hK hRo hRm [.long 6385252] [] (met_X4_isWord (vL C) D ac ad Ex hLay hEx 6385252 μ _ h) gw4_256 mf_X4_isWord rfl lm_0 rfl rfl rfl rfl dX4_rankHere_4 (fun r2 μ1 h => ?_)
  refine vv_if_eq (tgt := 12) hC dX4_rankHere_7 rfl (fun c3 => ?_) (fun c3 => ?_)
  · replace h := h.1 c3
    refine vv_aload_n hC dX4_rankHere_12 rfl 0 rfl ?_
    refine vv_ldc2 hC q1870 dX4_rankHere_13 ?_
    refine vv_callVi hC hR hK hRo hRm [.long 28530] [] (met_X4_isWord (vL C) D ac ad Ex hLay hEx 28530 μ1 _ h) gw4_256 mf_X4_isWord rfl lm_0 rfl rfl rfl rfl dX4_rankHere_16 (fun r5 μ4 h => ?_)
    refine vv_if_eq (tgt := 24) hC dX4_rankHere_19 rfl (fun c6 => ?_) (fun c6 => ?_)
    · replace h := h.1 c6
      refine vv_aload_n hC dX4_rankHere_24 rfl 0 rfl ?_
      refine vv_bipush hC dX4_rankHere_25 bp_60 ?_
      refine vv_callVi hC hR hK hRo hRm [.int 60] [] (met_X4_isSignHere (vL C) D ac ad Ex hLay hEx 60 μ4 _ h) gw4_272 mf_X4_isSignHere rfl lm_0 rfl rfl rfl rfl dX4_rankHere_27 (fun r8 μ7 h => ?_)
      refine vv_if_ne (tgt := 51) hC dX4_rankHere_30 rfl (fun c9 => ?_) (fun c9 => ?_)
      · replace h := h.1 c9
        refine vv_iconst hC dX4_rankHere_51 ic_4 ?_
        exact vv_iret hC hM dX4_rankHere_52 h
      · replace h := h.2 c9
        refine vv_aload_n hC dX4_rankHere_33 rfl 0 rfl ?_
        refine vv_bipush hC dX4_rankHere_34 bp_62 ?_
        refine vv_callVi hC hR hK hRo hRm [.int 62] [] (met_X4_isSignHere (vL C) D ac ad Ex hLay hEx 62 μ7 _ h) gw4_272 mf_X4_isSignHere rfl lm_0 rfl rfl rfl rfl dX4_rankHere_36 (fun r11 μ10 h => ?_)
        refine vv_if_ne (tgt := 51) hC dX4_rankHere_39 rfl (fun c12 => ?_) (fun c12 => ?_)
        · replace h := h.1 c12
          refine vv_iconst hC dX4_rankHere_51 ic_4 ?_
          exact vv_iret hC hM dX4_rankHere_52 h
        · replace h := h.2 c12
          refine vv_aload_n hC dX4_rankHere_42 rfl 0 rfl ?_
          refine vv_bipush hC dX4_rankHere_43 bp_61 ?_
          refine vv_callVi hC hR hK hRo hRm [.int 61] [] (met_X4_isSignHere (vL C) D ac ad Ex hLay hEx 61 μ10 _ h) gw4_272 mf_X4_isSignHere rfl lm_0 rfl rfl rfl rfl dX4_rankHere_45 (fun r14 μ13 h => ?_)
          refine vv_if_eq (tgt := 53) hC dX4_rankHere_48 rfl (fun c15 => ?_) (fun c15 => ?_)
          · replace h := h.1 c15
            refine vv_aload_n hC dX4_rankHere_53 rfl 0 rfl ?_
            refine vv_bipush hC dX4_rankHere_54 bp_43 ?_
            refine vv_callVi hC hR hK hRo hRm [.int 43] [] (met_X4_isSignHere (vL C) D ac ad Ex hLay hEx 43 μ13 _ h) gw4_272 mf_X4_isSignHere rfl lm_0 rfl rfl rfl rfl dX4_rankHere_56 (fun r17 μ16 h => ?_)
            refine vv_if_ne (tgt := 71) hC dX4_rankHere_59 rfl (fun c18 => ?_) (fun c18 => ?_)
            · replace h := h.1 c18
              refine vv_iconst hC dX4_rankHere_71 ic_5 ?_
              exact vv_iret hC hM dX4_rankHere_72 h
            · replace h := h.2 c18
              refine vv_aload_n hC dX4_rankHere_62 rfl 0 rfl ?_
              refine vv_bipush hC dX4_rankHere_63 bp_45 ?_
              refine vv_callVi hC hR hK hRo hRm [.int 45] [] (met_X4_isSignHere (vL C) D ac ad Ex hLay hEx 45 μ16 _ h) gw4_272 mf_X4_isSignHere rfl lm_0 rfl rfl rfl rfl dX4_rankHere_65 (fun r20 μ19 h => ?_)
              refine vv_if_eq (tgt := 73) hC dX4_rankHere_68 rfl (fun c21 => ?_) (fun c21 => ?_)
              · replace h := h.1 c21
                refine vv_aload_n hC dX4_rankHere_73 rfl 0 rfl ?_
                refine vv_bipush hC dX4_rankHere_74 bp_42 ?_
                refine vv_callVi hC hR hK hRo hRm [.int 42] [] (met_X4_isSignHere (vL C) D ac ad Ex hLay hEx 42 μ19 _ h) gw4_272 mf_X4_isSignHere rfl lm_0 rfl rfl rfl rfl dX4_rankHere_76 (fun r23 μ22 h => ?_)
                refine vv_if_ne (tgt := 100) hC dX4_rankHere_79 rfl (fun c24 => ?_) (fun c24 => ?_)
                · replace h := h.1 c24
                  refine vv_bipush hC dX4_rankHere_100 bp_6 ?_
                  refine vv_goto (tgt := 106) hC dX4_rankHere_102 rfl ?_
                  exact vv_iret hC hM dX4_rankHere_106 h
                · replace h := h.2 c24
                  refine vv_aload_n hC dX4_rankHere_82 rfl 0 rfl ?_
                  refine vv_bipush hC dX4_rankHere_83 bp_47 ?_
                  refine vv_callVi hC hR hK hRo hRm [.int 47] [] (met_X4_isSignHere (vL C) D ac ad Ex hLay hEx 47 μ22 _ h) gw4_272 mf_X4_isSignHere rfl lm_0 rfl rfl rfl rfl dX4_rankHere_85 (fun r26 μ25 h => ?_)
                  refine vv_if_ne (tgt := 100) hC dX4_rankHere_88 rfl (fun c27 => ?_) (fun c27 => ?_)
                  · replace h := h.1 c27
                    refine vv_bipush hC dX4_rankHere_100 bp_6 ?_
                    refine vv_goto (tgt := 106) hC dX4_rankHere_102 rfl ?_
                    exact vv_iret hC hM dX4_rankHere_106 h
                  · replace h := h.2 c27
                    refine vv_aload_n hC dX4_rankHere_91 rfl 0 rfl ?_
                    refine vv_bipush hC dX4_rankHere_92 bp_37 ?_
                    refine vv_callVi hC hR hK hRo hRm [.int 37] [] (met_X4_isSignHere (vL C) D ac ad Ex hLay hEx 37 μ25 _ h) gw4_272 mf_X4_isSignHere rfl lm_0 rfl rfl rfl rfl dX4_rankHere_94 (fun r29 μ28 h => ?_)
                    refine vv_if_eq (tgt := 105) hC dX4_rankHere_97 rfl (fun c30 => ?_) (fun c30 => ?_)
                    · replace h := h.1 c30
                      refine vv_iconst hC dX4_rankHere_105 ic_0 ?_
                      exact vv_iret hC hM dX4_rankHere_106 h
                    · replace h := h.2 c30
                      refine vv_bipush hC dX4_rankHere_100 bp_6 ?_
                      refine vv_goto (tgt := 106) hC dX4_rankHere_102 rfl ?_
                      exact vv_iret hC hM dX4_rankHere_106 h
              · replace h := h.2 c21
                refine vv_iconst hC dX4_rankHere_71 ic_5 ?_
                exact vv_iret hC hM dX4_rankHere_72 h
          · replace h := h.2 c15
            refine vv_iconst hC dX4_rankHere_51 ic_4 ?_
            exact vv_iret hC hM dX4_rankHere_52 h
    · replace h := h.2 c6
      refine vv_iconst hC dX4_rankHere_22 ic_1 ?_
      exact vv_iret hC hM dX4_rankHere_23 h
  · replace h := h.2 c3
    refine vv_iconst hC dX4_rankHere_10 ic_2 ?_
    exact vv_iret hC hM dX4_rankHere_11 h
def w_X4_isCompared_28 (P7 : Int32 → WS → Prop) (v1 : Int32) (μ : WS) (Q : Int32 → WS → Prop) : Prop := P7 (v1 + (-1)) μ
def w_X4_isCompared_7b (P7 : Int32 → WS → Prop) (v1 : Int32) (μ : WS) (Q : Int32 → WS → Prop) : Prop := (vp_in v1 90 ∧ ((μ.1 18 v1.toNatClampNeg = 5) → w_X4_isCompared_28 P7 v1 μ Q) ∧ ((¬ μ.1 18 v1.toNatClampNeg = 5) → (vp_in v1 90 ∧ ((¬ μ.1 18 v1.toNatClampNeg = 6) → (vp_in v1 90 ∧ ((¬ μ.1 18 v1.toNatClampNeg = 4) → Q 0 μ) ∧ ((μ.1 18 v1.toNatClampNeg = 4) → Q 1 μ))) ∧ ((μ.1 18 v1.toNatClampNeg = 6) → w_X4_isCompared_28 P7 v1 μ Q))))
def w_X4_isCompared_7 (v1 : Int32) (μ : WS) (Q : Int32 → WS → Prop) : Prop := ∀ P7 : Int32 → WS → Prop, (∀ (v1 : Int32) (μ : WS), w_X4_isCompared_7b  P7 v1 μ Q → P7 v1 μ) → P7 v1 μ
def w_X4_isCompared (μ : WS) (Q : Int32 → WS → Prop) : Prop := (∀ x1 : Int32, x1 = (μ.1 0 33) - 1 → w_X4_isCompared_7 x1 μ Q)
abbrev rm_X4_isCompared : Room := { frames := 0, cells := 0, slots := 0, locals := 0 }
theorem mf_X4_isCompared : MFact yX4_isCompared 0 rm_X4_isCompared := ⟨by decide +kernel, rfl, rfl⟩
set_option maxHeartbeats 4000000 in
theorem met_X4_isCompared (l : Launch) (D : va_G) (ac : Nat → ClassId) (ad : Nat → Nat) (Ex : Heap → Prop) (hLay : LayOk ad knM) (hEx : ExOk ad knM Ex) (μ : WS) (Q : Int32 → WS → Prop) (h : w_X4_isCompared  μ Q) : CMet l yX4_isCompared cX4_isCompared 2 (some .boolean) rm_X4_isCompared D ac ad knM Ex [.ref (ad 0)] μ (qI Q) := by
  refine vv_met (lv := [(0, .ref (ad 0))]) (by decide) hLay hEx (Nat.le_of_ble_eq_true rfl) rfl ⟨rfl, rfl⟩ (fun C hC hK hRm hLl hR hM => ?_)
  subst hLl
  have hRo : RoomOk (HPW D ac ad knM Ex (vS C)) (vR C) := HPW.room
  have L28 : ∀ (P7 : Int32 → WS → Prop) (h7 : ∀ (v1 : Int32) (μ : WS), P7 v1 μ → VV C 2 (HPW D ac ad knM Ex (vS C)) (vQ C (QcW D ac ad knM (qI Q)) 0 0 (inLay ad knM)) (μ, ()) 7 [(0, .ref (ad 0)), (1, .int v1)] []) (v1 : Int32) (μ : WS), w_X4_isCompared_28 P7 v1 μ Q → VV C 2 (HPW D ac ad knM Ex (vS C)) (vQ C (QcW D ac ad knM (qI Q)) 0 0 (inLay ad knM)) (μ, ()) 28 [(0, .ref (ad 0)), (1, .int v1)] [] := by
    intro P7 h7 v1 μ h
    unfold w_X4_isCompared_28 at h
    refine vv_iinc (pl := 1) (v := v1 + (-1)) (lv' := [(1, .int (v1 + (-1))), (0, .ref (ad 0))]) hC dX4_isCompared_28 rfl rfl (by decide) rfl ?_
    refine vv_goto (tgt := 7) hC dX4_isCompared_31 rfl ?_
    refine vv_lv [1, 0] rfl ?_
    exact h7 _ _ h
  have L7 : ∀ (v1 : Int32) (μ : WS), w_X4_isCompared_7  v1 μ Q → VV C 2 (HPW D ac ad knM Ex (vS C)) (vQ C (QcW D ac ad knM (qI Q)) 0 0 (inLay ad knM)) (μ, ()) 7 [(0, .ref (ad 0)), (1, .int v1)] [] := by
    intro  v1 μ h
    refine h (fun v1 μ => VV C 2 (HPW D ac ad knM Ex (vS C)) (vQ C (QcW D ac ad knM (qI Q)) 0 0 (inLay ad knM)) (μ, ()) 7 [(0, .ref (ad 0)), (1, .int v1)] []) ?_
    clear h; intro v1 μ h
    have h7 : ∀ (v1 : Int32) (μ : WS), (fun v1 (μ : WS) => VV C 2 (HPW D ac ad knM Ex (vS C)) (vQ C (QcW D ac ad knM (qI Q)) 0 0 (inLay ad knM)) (μ, ()) 7 [(0, .ref (ad 0)), (1, .int v1)] []) v1 μ → VV C 2 (HPW D ac ad knM Ex (vS C)) (vQ C (QcW D ac ad knM (qI Q)) 0 0 (inLay ad knM)) (μ, ()) 7 [(0, .ref (ad 0)), (1, .int v1)] [] := fun _ _ h => h
    unfold w_X4_isCompared_7b at h
    refine vv_aload_n hC dX4_isCompared_7 rfl 0 rfl ?_
    refine vv_getf hC hR hK fa4_68 0 lm_0 (fm_26 ad _ _ _) dX4_isCompared_8 ?_
    refine vv_iload_n hC dX4_isCompared_11 rfl 1 rfl ?_
    obtain ⟨hin, h⟩ := h
    refine vv_iald hC hR hK 18 lm_18 hin dX4_isCompared_12 ?_
    refine vv_iconst hC dX4_isCompared_13 ic_5 ?_
    refine vv_icmp_eq (tgt := 28) hC dX4_isCompared_14 rfl (fun c2 => ?_) (fun c2 => ?_)
    · replace h := h.1 c2
      exact L28 _ h7 _ _ h
    · replace h := h.2 c2
      refine vv_aload_n hC dX4_isCompared_17 rfl 0 rfl ?_
      refine vv_getf hC hR hK fa4_68 0 lm_0 (fm_26 ad _ _ _) dX4_isCompared_18 ?_
      refine vv_iload_n hC dX4_isCompared_21 rfl 1 rfl ?_
      obtain ⟨hin, h⟩ := h
      refine vv_iald hC hR hK 18 lm_18 hin dX4_isCompared_22 ?_
      refine vv_bipush hC dX4_isCompared_23 bp_6 ?_
      refine vv_icmp_ne (tgt := 34) hC dX4_isCompared_25 rfl (fun c3 => ?_) (fun c3 => ?_)
      · replace h := h.1 c3
        refine vv_aload_n hC dX4_isCompared_34 rfl 0 rfl ?_
        refine vv_getf hC hR hK fa4_68 0 lm_0 (fm_26 ad _ _ _) dX4_isCompared_35 ?_
        refine vv_iload_n hC dX4_isCompared_38 rfl 1 rfl ?_
        obtain ⟨hin, h⟩ := h
        refine vv_iald hC hR hK 18 lm_18 hin dX4_isCompared_39 ?_
        refine vv_iconst hC dX4_isCompared_40 ic_4 ?_
        refine vv_icmp_ne (tgt := 48) hC dX4_isCompared_41 rfl (fun c4 => ?_) (fun c4 => ?_)
        · replace h := h.1 c4
          refine vv_iconst hC dX4_isCompared_48 ic_0 ?_
          exact vv_zret hC hM dX4_isCompared_49 isB_0 h
        · replace h := h.2 c4
          refine vv_iconst hC dX4_isCompared_44 ic_1 ?_
          refine vv_goto (tgt := 49) hC dX4_isCompared_45 rfl ?_
          exact vv_zret hC hM dX4_isCompared_49 isB_1 h
      · replace h := h.2 c3
        exact L28 _ h7 _ _ h
  unfold w_X4_isCompared at h
  refine vv_aload_n hC dX4_isCompared_0 rfl 0 rfl ?_
  refine vv_getf hC hR hK fa4_293 0 lm_0 (fm_33 ad _ _ _) dX4_isCompared_1 ?_
  refine vv_iconst hC dX4_isCompared_4 ic_1 ?_
  refine vv_isub hC dX4_isCompared_5 ?_
  refine vv_topi (fun x1 ex1 => ?_)
  replace h := h x1 ex1
  refine vv_istore_n (lv' := [(1, .int x1), (0, .ref (ad 0))]) hC dX4_isCompared_6 rfl (by decide) rfl ?_
  refine vv_lv [1, 0] rfl ?_
  exact L7  _ _ h
def w_X4_behindUnit_138 (s0 : Int32) (s1 : Int32) (μ : WS) (Q : Int32 → WS → Prop) : Prop := (w_X4_pushE s1 s0 μ (fun μ28 => (w_X4_goOn μ28 (fun μ30 => Q 1 μ30))))
def w_X4_behindUnit_104 (v1 : Int32) (μ : WS) (Q : Int32 → WS → Prop) : Prop := ((v1 ≤ 0) → (∀ μ17 : WS, μ17 = wset μ 0 33 ((μ.1 0 33) - 1) → (vp_in (μ17.1 0 33) 90 ∧ ((¬ μ17.1 18 (μ17.1 0 33).toNatClampNeg = 7) → Q 0 μ17) ∧ ((μ17.1 18 (μ17.1 0 33).toNatClampNeg = 7) → (∀ μ19 : WS, μ19 = wset μ17 0 32 ((μ17.1 0 32) - 1) → (w_X4_isSignHere 41 μ19 (fun r21 μ20 => (w_X4_must r21 μ20 (fun μ22 => Q 0 μ22))))))))) ∧ ((¬ v1 ≤ 0) → ((¬ v1 = 2) → ((¬ v1 = 1) → (w_X4_sign (μ.1 0 6) μ (fun r27 μ26 => w_X4_behindUnit_138 r27 v1 μ26 Q))) ∧ ((v1 = 1) → w_X4_behindUnit_138 124 v1 μ Q)) ∧ ((v1 = 2) → w_X4_behindUnit_138 38 v1 μ Q))
def w_X4_behindUnit_87 (P23 : Int32 → WS → Prop) (v1 : Int32) (μ : WS) (Q : Int32 → WS → Prop) : Prop := (vp_in (μ.1 0 33) 90 ∧ (w_X4_emit (μ.1 19 (μ.1 0 33).toNatClampNeg) 0 μ (fun μ14 => P23 v1 μ14)))
def w_X4_behindUnit_23b (P23 : Int32 → WS → Prop) (v1 : Int32) (μ : WS) (Q : Int32 → WS → Prop) : Prop := (vp_in ((μ.1 0 33) - 1) 90 ∧ ((6 < μ.1 18 ((μ.1 0 33) - 1).toNatClampNeg) → w_X4_behindUnit_104 v1 μ Q) ∧ ((¬ 6 < μ.1 18 ((μ.1 0 33) - 1).toNatClampNeg) → (vp_in ((μ.1 0 33) - 1) 90 ∧ ((μ.1 18 ((μ.1 0 33) - 1).toNatClampNeg < v1) → w_X4_behindUnit_104 v1 μ Q) ∧ ((¬ μ.1 18 ((μ.1 0 33) - 1).toNatClampNeg < v1) → (∀ μ11 : WS, μ11 = wset μ 0 33 ((μ.1 0 33) - 1) → (vp_in (μ11.1 0 33) 90 ∧ ((¬ μ11.1 18 (μ11.1 0 33).toNatClampNeg = 3) → w_X4_behindUnit_87 P23 v1 μ11 Q) ∧ ((μ11.1 18 (μ11.1 0 33).toNatClampNeg = 3) → (∀ μ13 : WS, μ13 = wset μ11 0 32 ((μ11.1 0 32) - 1) → w_X4_behindUnit_87 P23 v1 μ13 Q))))))))
def w_X4_behindUnit_23 (v1 : Int32) (μ : WS) (Q : Int32 → WS → Prop) : Prop := ∀ P23 : Int32 → WS → Prop, (∀ (v1 : Int32) (μ : WS), w_X4_behindUnit_23b  P23 v1 μ Q → P23 v1 μ) → P23 v1 μ
def w_X4_behindUnit (μ : WS) (Q : Int32 → WS → Prop) : Prop := (w_X4_rankHere μ (fun r2 μ1 => ((¬ r2 = 4) → w_X4_behindUnit_23 r2 μ1 Q) ∧ ((r2 = 4) → (w_X4_isCompared μ1 (fun r5 μ4 => ((r5 = 0) → w_X4_behindUnit_23 r2 μ4 Q) ∧ ((¬ r5 = 0) → (w_X4_misplaced μ4 (fun μ7 => Q 1 μ7))))))))
abbrev rm_X4_behindUnit : Room := { frames := 3, cells := 0, slots := 0, locals := 65 }
theorem mf_X4_behindUnit : MFact yX4_behindUnit 0 rm_X4_behindUnit := ⟨by decide +kernel, rfl, rfl⟩
set_option maxHeartbeats 4000000 in
theorem met_X4_behindUnit (l : Launch) (D : va_G) (ac : Nat → ClassId) (ad : Nat → Nat) (Ex : Heap → Prop) (hLay : LayOk ad knM) (hEx : ExOk ad knM Ex) (μ : WS) (Q : Int32 → WS → Prop) (h : w_X4_behindUnit  μ Q) : CMet l yX4_behindUnit cX4_behindUnit 2 (some .boolean) rm_X4_behindUnit D ac ad knM Ex [.ref (ad 0)] μ (qI Q) := by
  refine vv_met (lv := [(0, .ref (ad 0))]) (by decide) hLay hEx (Nat.le_of_ble_eq_true rfl) rfl ⟨rfl, rfl⟩ (fun C hC hK hRm hLl hR hM => ?_)
  subst hLl
  have hRo : RoomOk (HPW D ac ad knM Ex (vS C)) (vR C) := HPW.room
  have L138 : ∀ (s0 : Int32) (s1 : Int32) (μ : WS), w_X4_behindUnit_138  s0 s1 μ Q → VV C 2 (HPW D ac ad knM Ex (vS C)) (vQ C (QcW D ac ad knM (qI Q)) 0 0 (inLay ad knM)) (μ, ()) 138 [(0, .ref (ad 0))] [.int s0, .int s1, .ref (ad 0)] := by
    intro  s0 s1 μ h
    unfold w_X4_behindUnit_138 at h
    refine vv_callVv hC hR hK hRo hRm [.int s1, .int s0] [] (met_X4_pushE (vL C) D ac ad Ex hLay hEx s1 s0 μ _ h) gw4_299 mf_X4_pushE rfl lm_0 rfl rfl rfl rfl dX4_behindUnit_138 (fun μ28 h => ?_)
    refine vv_aload_n hC dX4_behindUnit_141 rfl 0 rfl ?_
    refine vv_callVv hC hR hK hRo hRm [] [] (met_X4_goOn (vL C) D ac ad Ex hLay hEx  μ28 _ h) gw4_235 mf_X4_goOn rfl lm_0 rfl rfl rfl rfl dX4_behindUnit_142 (fun μ30 h => ?_)
    refine vv_iconst hC dX4_behindUnit_145 ic_1 ?_
    exact vv_zret hC hM dX4_behindUnit_146 isB_1 h
  have L104 : ∀ (v1 : Int32) (μ : WS), w_X4_behindUnit_104  v1 μ Q → VV C 2 (HPW D ac ad knM Ex (vS C)) (vQ C (QcW D ac ad knM (qI Q)) 0 0 (inLay ad knM)) (μ, ()) 104 [(0, .ref (ad 0)), (1, .int v1)] [] := by
    intro  v1 μ h
    unfold w_X4_behindUnit_104 at h
    refine vv_iload_n hC dX4_behindUnit_104 rfl 1 rfl ?_
    refine vv_if_le (tgt := 147) hC dX4_behindUnit_105 rfl (fun c16 => ?_) (fun c16 => ?_)
    · replace h := h.1 c16
      refine vv_aload_n hC dX4_behindUnit_147 rfl 0 rfl ?_
      refine vv_dup hC dX4_behindUnit_148 rfl ?_
      refine vv_getf hC hR hK fa4_293 0 lm_0 (fm_33 ad _ _ _) dX4_behindUnit_149 ?_
      refine vv_iconst hC dX4_behindUnit_152 ic_1 ?_
      refine vv_isub hC dX4_behindUnit_153 ?_
      refine vv_puti hC hR hK fa4_293 0 lm_0 fn_33 rfl rfl dX4_behindUnit_154 ?_
      refine vv_st (fun y e => ?_)
      obtain ⟨μ17, _⟩ := y
      have eμ17 := congrArg Prod.fst e
      clear e
      replace h := h μ17 eμ17
      refine vv_aload_n hC dX4_behindUnit_157 rfl 0 rfl ?_
      refine vv_getf hC hR hK fa4_68 0 lm_0 (fm_26 ad _ _ _) dX4_behindUnit_158 ?_
      refine vv_aload_n hC dX4_behindUnit_161 rfl 0 rfl ?_
      refine vv_getf hC hR hK fa4_293 0 lm_0 (fm_33 ad _ _ _) dX4_behindUnit_162 ?_
      obtain ⟨hin, h⟩ := h
      refine vv_iald hC hR hK 18 lm_18 hin dX4_behindUnit_165 ?_
      refine vv_bipush hC dX4_behindUnit_166 bp_7 ?_
      refine vv_icmp_ne (tgt := 191) hC dX4_behindUnit_168 rfl (fun c18 => ?_) (fun c18 => ?_)
      · replace h := h.1 c18
        refine vv_iconst hC dX4_behindUnit_191 ic_0 ?_
        exact vv_zret hC hM dX4_behindUnit_192 isB_0 h
      · replace h := h.2 c18
        refine vv_aload_n hC dX4_behindUnit_171 rfl 0 rfl ?_
        refine vv_dup hC dX4_behindUnit_172 rfl ?_
        refine vv_getf hC hR hK fa4_296 0 lm_0 (fm_32 ad _ _ _) dX4_behindUnit_173 ?_
        refine vv_iconst hC dX4_behindUnit_176 ic_1 ?_
        refine vv_isub hC dX4_behindUnit_177 ?_
        refine vv_puti hC hR hK fa4_296 0 lm_0 fn_32 rfl rfl dX4_behindUnit_178 ?_
        refine vv_st (fun y e => ?_)
        obtain ⟨μ19, _⟩ := y
        have eμ19 := congrArg Prod.fst e
        clear e
        replace h := h μ19 eμ19
        refine vv_aload_n hC dX4_behindUnit_181 rfl 0 rfl ?_
        refine vv_aload_n hC dX4_behindUnit_182 rfl 0 rfl ?_
        refine vv_bipush hC dX4_behindUnit_183 bp_41 ?_
        refine vv_callVi hC hR hK hRo hRm [.int 41] [.ref (ad 0)] (met_X4_isSignHere (vL C) D ac ad Ex hLay hEx 41 μ19 _ h) gw4_272 mf_X4_isSignHere rfl lm_0 rfl rfl rfl rfl dX4_behindUnit_185 (fun r21 μ20 h => ?_)
        refine vv_callVv hC hR hK hRo hRm [.int r21] [] (met_X4_must (vL C) D ac ad Ex hLay hEx r21 μ20 _ h) gw4_275 mf_X4_must rfl lm_0 rfl rfl rfl rfl dX4_behindUnit_188 (fun μ22 h => ?_)
        refine vv_iconst hC dX4_behindUnit_191 ic_0 ?_
        exact vv_zret hC hM dX4_behindUnit_192 isB_0 h
    · replace h := h.2 c16
      refine vv_aload_n hC dX4_behindUnit_108 rfl 0 rfl ?_
      refine vv_iload_n hC dX4_behindUnit_109 rfl 1 rfl ?_
      refine vv_iload_n hC dX4_behindUnit_110 rfl 1 rfl ?_
      refine vv_iconst hC dX4_behindUnit_111 ic_2 ?_
      refine vv_icmp_ne (tgt := 120) hC dX4_behindUnit_112 rfl (fun c24 => ?_) (fun c24 => ?_)
      · replace h := h.1 c24
        refine vv_iload_n hC dX4_behindUnit_120 rfl 1 rfl ?_
        refine vv_iconst hC dX4_behindUnit_121 ic_1 ?_
        refine vv_icmp_ne (tgt := 130) hC dX4_behindUnit_122 rfl (fun c25 => ?_) (fun c25 => ?_)
        · replace h := h.1 c25
          refine vv_aload_n hC dX4_behindUnit_130 rfl 0 rfl ?_
          refine vv_aload_n hC dX4_behindUnit_131 rfl 0 rfl ?_
          refine vv_getf hC hR hK fa4_196 0 lm_0 (fm_6 ad _ _ _) dX4_behindUnit_132 ?_
          refine vv_callVi hC hR hK hRo hRm [.int (μ.1 0 6)] [.int v1, .ref (ad 0)] (met_X4_sign (vL C) D ac ad Ex hLay hEx (μ.1 0 6) μ _ h) gw4_199 mf_X4_sign rfl lm_0 rfl rfl rfl rfl dX4_behindUnit_135 (fun r27 μ26 h => ?_)
          refine vv_lv [0] rfl ?_
          exact L138  _ _ _ h
        · replace h := h.2 c25
          refine vv_bipush hC dX4_behindUnit_125 bp_124 ?_
          refine vv_goto (tgt := 138) hC dX4_behindUnit_127 rfl ?_
          refine vv_lv [0] rfl ?_
          exact L138  _ _ _ h
      · replace h := h.2 c24
        refine vv_bipush hC dX4_behindUnit_115 bp_38 ?_
        refine vv_goto (tgt := 138) hC dX4_behindUnit_117 rfl ?_
        refine vv_lv [0] rfl ?_
        exact L138  _ _ _ h
  have L87 : ∀ (P23 : Int32 → WS → Prop) (h23 : ∀ (v1 : Int32) (μ : WS), P23 v1 μ → VV C 2 (HPW D ac ad knM Ex (vS C)) (vQ C (QcW D ac ad knM (qI Q)) 0 0 (inLay ad knM)) (μ, ()) 23 [(0, .ref (ad 0)), (1, .int v1)] []) (v1 : Int32) (μ : WS), w_X4_behindUnit_87 P23 v1 μ Q → VV C 2 (HPW D ac ad knM Ex (vS C)) (vQ C (QcW D ac ad knM (qI Q)) 0 0 (inLay ad knM)) (μ, ()) 87 [(0, .ref (ad 0)), (1, .int v1)] [] := by
    intro P23 h23 v1 μ h
    unfold w_X4_behindUnit_87 at h
    refine vv_aload_n hC dX4_behindUnit_87 rfl 0 rfl ?_
    refine vv_aload_n hC dX4_behindUnit_88 rfl 0 rfl ?_
    refine vv_getf hC hR hK fa4_71 0 lm_0 (fm_27 ad _ _ _) dX4_behindUnit_89 ?_
    refine vv_aload_n hC dX4_behindUnit_92 rfl 0 rfl ?_
    refine vv_getf hC hR hK fa4_293 0 lm_0 (fm_33 ad _ _ _) dX4_behindUnit_93 ?_
    obtain ⟨hin, h⟩ := h
    refine vv_iald hC hR hK 19 lm_19 hin dX4_behindUnit_96 ?_
    refine vv_iconst hC dX4_behindUnit_97 ic_0 ?_
    refine vv_callVv hC hR hK hRo hRm [.int (μ.1 19 (μ.1 0 33).toNatClampNeg), .int 0] [] (met_X4_emit (vL C) D ac ad Ex hLay hEx (μ.1 19 (μ.1 0 33).toNatClampNeg) 0 μ _ h) gw4_311 mf_X4_emit rfl lm_0 rfl rfl rfl rfl dX4_behindUnit_98 (fun μ14 h => ?_)
    refine vv_goto (tgt := 23) hC dX4_behindUnit_101 rfl ?_
    exact h23 _ _ h
  have L23 : ∀ (v1 : Int32) (μ : WS), w_X4_behindUnit_23  v1 μ Q → VV C 2 (HPW D ac ad knM Ex (vS C)) (vQ C (QcW D ac ad knM (qI Q)) 0 0 (inLay ad knM)) (μ, ()) 23 [(0, .ref (ad 0)), (1, .int v1)] [] := by
    intro  v1 μ h
    refine h (fun v1 μ => VV C 2 (HPW D ac ad knM Ex (vS C)) (vQ C (QcW D ac ad knM (qI Q)) 0 0 (inLay ad knM)) (μ, ()) 23 [(0, .ref (ad 0)), (1, .int v1)] []) ?_
    clear h; intro v1 μ h
    have h23 : ∀ (v1 : Int32) (μ : WS), (fun v1 (μ : WS) => VV C 2 (HPW D ac ad knM Ex (vS C)) (vQ C (QcW D ac ad knM (qI Q)) 0 0 (inLay ad knM)) (μ, ()) 23 [(0, .ref (ad 0)), (1, .int v1)] []) v1 μ → VV C 2 (HPW D ac ad knM Ex (vS C)) (vQ C (QcW D ac ad knM (qI Q)) 0 0 (inLay ad knM)) (μ, ()) 23 [(0, .ref (ad 0)), (1, .int v1)] [] := fun _ _ h => h
    unfold w_X4_behindUnit_23b at h
    refine vv_aload_n hC dX4_behindUnit_23 rfl 0 rfl ?_
    refine vv_getf hC hR hK fa4_68 0 lm_0 (fm_26 ad _ _ _) dX4_behindUnit_24 ?_
    refine vv_aload_n hC dX4_behindUnit_27 rfl 0 rfl ?_
    refine vv_getf hC hR hK fa4_293 0 lm_0 (fm_33 ad _ _ _) dX4_behindUnit_28 ?_
    refine vv_iconst hC dX4_behindUnit_31 ic_1 ?_
    refine vv_isub hC dX4_behindUnit_32 ?_
    obtain ⟨hin, h⟩ := h
    refine vv_iald hC hR hK 18 lm_18 hin dX4_behindUnit_33 ?_
    refine vv_bipush hC dX4_behindUnit_34 bp_6 ?_
    refine vv_icmp_gt (tgt := 104) hC dX4_behindUnit_36 rfl (fun c9 => ?_) (fun c9 => ?_)
    · replace h := h.1 c9
      exact L104  _ _ h
    · replace h := h.2 c9
      refine vv_aload_n hC dX4_behindUnit_39 rfl 0 rfl ?_
      refine vv_getf hC hR hK fa4_68 0 lm_0 (fm_26 ad _ _ _) dX4_behindUnit_40 ?_
      refine vv_aload_n hC dX4_behindUnit_43 rfl 0 rfl ?_
      refine vv_getf hC hR hK fa4_293 0 lm_0 (fm_33 ad _ _ _) dX4_behindUnit_44 ?_
      refine vv_iconst hC dX4_behindUnit_47 ic_1 ?_
      refine vv_isub hC dX4_behindUnit_48 ?_
      obtain ⟨hin, h⟩ := h
      refine vv_iald hC hR hK 18 lm_18 hin dX4_behindUnit_49 ?_
      refine vv_iload_n hC dX4_behindUnit_50 rfl 1 rfl ?_
      refine vv_icmp_lt (tgt := 104) hC dX4_behindUnit_51 rfl (fun c10 => ?_) (fun c10 => ?_)
      · replace h := h.1 c10
        exact L104  _ _ h
      · replace h := h.2 c10
        refine vv_aload_n hC dX4_behindUnit_54 rfl 0 rfl ?_
        refine vv_dup hC dX4_behindUnit_55 rfl ?_
        refine vv_getf hC hR hK fa4_293 0 lm_0 (fm_33 ad _ _ _) dX4_behindUnit_56 ?_
        refine vv_iconst hC dX4_behindUnit_59 ic_1 ?_
        refine vv_isub hC dX4_behindUnit_60 ?_
        refine vv_puti hC hR hK fa4_293 0 lm_0 fn_33 rfl rfl dX4_behindUnit_61 ?_
        refine vv_st (fun y e => ?_)
        obtain ⟨μ11, _⟩ := y
        have eμ11 := congrArg Prod.fst e
        clear e
        replace h := h μ11 eμ11
        refine vv_aload_n hC dX4_behindUnit_64 rfl 0 rfl ?_
        refine vv_getf hC hR hK fa4_68 0 lm_0 (fm_26 ad _ _ _) dX4_behindUnit_65 ?_
        refine vv_aload_n hC dX4_behindUnit_68 rfl 0 rfl ?_
        refine vv_getf hC hR hK fa4_293 0 lm_0 (fm_33 ad _ _ _) dX4_behindUnit_69 ?_
        obtain ⟨hin, h⟩ := h
        refine vv_iald hC hR hK 18 lm_18 hin dX4_behindUnit_72 ?_
        refine vv_iconst hC dX4_behindUnit_73 ic_3 ?_
        refine vv_icmp_ne (tgt := 87) hC dX4_behindUnit_74 rfl (fun c12 => ?_) (fun c12 => ?_)
        · replace h := h.1 c12
          exact L87 _ h23 _ _ h
        · replace h := h.2 c12
          refine vv_aload_n hC dX4_behindUnit_77 rfl 0 rfl ?_
          refine vv_dup hC dX4_behindUnit_78 rfl ?_
          refine vv_getf hC hR hK fa4_296 0 lm_0 (fm_32 ad _ _ _) dX4_behindUnit_79 ?_
          refine vv_iconst hC dX4_behindUnit_82 ic_1 ?_
          refine vv_isub hC dX4_behindUnit_83 ?_
          refine vv_puti hC hR hK fa4_296 0 lm_0 fn_32 rfl rfl dX4_behindUnit_84 ?_
          refine vv_st (fun y e => ?_)
          obtain ⟨μ13, _⟩ := y
          have eμ13 := congrArg Prod.fst e
          clear e
          replace h := h μ13 eμ13
          exact L87 _ h23 _ _ h
  unfold w_X4_behindUnit at h
  refine vv_aload_n hC dX4_behindUnit_0 rfl 0 rfl ?_
  refine vv_callVi hC hR hK hRo hRm [] [] (met_X4_rankHere (vL C) D ac ad Ex hLay hEx  μ _ h) gw4_314 mf_X4_rankHere rfl lm_0 rfl rfl rfl rfl dX4_behindUnit_1 (fun r2 μ1 h => ?_)
  refine vv_istore_n (lv' := [(1, .int r2), (0, .ref (ad 0))]) hC dX4_behindUnit_4 rfl (by decide) rfl ?_
  refine vv_iload_n hC dX4_behindUnit_5 rfl 0 rfl ?_
  refine vv_iconst hC dX4_behindUnit_6 ic_4 ?_
  refine vv_icmp_ne (tgt := 23) hC dX4_behindUnit_7 rfl (fun c3 => ?_) (fun c3 => ?_)
  · replace h := h.1 c3
    refine vv_lv [1, 0] rfl ?_
    exact L23  _ _ h
  · replace h := h.2 c3
    refine vv_aload_n hC dX4_behindUnit_10 rfl 1 rfl ?_
    refine vv_callVi hC hR hK hRo hRm [] [] (met_X4_isCompared (vL C) D ac ad Ex hLay hEx  μ1 _ h) gw4_317 mf_X4_isCompared rfl lm_0 rfl rfl rfl rfl dX4_behindUnit_11 (fun r5 μ4 h => ?_)
    refine vv_if_eq (tgt := 23) hC dX4_behindUnit_14 rfl (fun c6 => ?_) (fun c6 => ?_)
    · replace h := h.1 c6
      refine vv_lv [1, 0] rfl ?_
      exact L23  _ _ h
    · replace h := h.2 c6
      refine vv_aload_n hC dX4_behindUnit_17 rfl 1 rfl ?_
      refine vv_callVv hC hR hK hRo hRm [] [] (met_X4_misplaced (vL C) D ac ad Ex hLay hEx  μ4 _ h) gw4_238 mf_X4_misplaced rfl lm_0 rfl rfl rfl rfl dX4_behindUnit_18 (fun μ7 h => ?_)
      refine vv_iconst hC dX4_behindUnit_21 ic_1 ?_
      exact vv_zret hC hM dX4_behindUnit_22 isB_1 h
def w_X4_e_48 (P19 : Int32 → WS → Prop) (s0 : Int32) (μ : WS) (Q : WS → Prop) : Prop := P19 s0 μ
def w_X4_e_19b (P19 : Int32 → WS → Prop) (v1 : Int32) (μ : WS) (Q : WS → Prop) : Prop := (w_X4_isGood μ (fun r6 μ5 => ((r6 = 0) → Q μ5) ∧ ((¬ r6 = 0) → ((μ5.1 0 33 ≤ 0) → Q μ5) ∧ ((¬ μ5.1 0 33 ≤ 0) → ((v1 = 0) → (w_X4_behindUnit μ5 (fun r11 μ10 => w_X4_e_48 P19 r11 μ10 Q))) ∧ ((¬ v1 = 0) → (w_X4_unit μ5 (fun r13 μ12 => w_X4_e_48 P19 r13 μ12 Q)))))))
def w_X4_e_19 (v1 : Int32) (μ : WS) (Q : WS → Prop) : Prop := ∀ P19 : Int32 → WS → Prop, (∀ (v1 : Int32) (μ : WS), w_X4_e_19b  P19 v1 μ Q → P19 v1 μ) → P19 v1 μ
def w_X4_e (μ : WS) (Q : WS → Prop) : Prop := (∀ μ1 : WS, μ1 = wset μ 0 33 0 → (∀ μ2 : WS, μ2 = wset μ1 0 32 0 → (w_X4_pushE 8 0 μ2 (fun μ3 => w_X4_e_19 1 μ3 Q))))
abbrev rm_X4_e : Room := { frames := 4, cells := 0, slots := 0, locals := 86 }
theorem mf_X4_e : MFact yX4_e 0 rm_X4_e := ⟨by decide +kernel, rfl, rfl⟩
set_option maxHeartbeats 4000000 in
theorem met_X4_e (l : Launch) (D : va_G) (ac : Nat → ClassId) (ad : Nat → Nat) (Ex : Heap → Prop) (hLay : LayOk ad knM) (hEx : ExOk ad knM Ex) (μ : WS) (Q : WS → Prop) (h : w_X4_e  μ Q) : CMet l yX4_e cX4_e 2 none rm_X4_e D ac ad knM Ex [.ref (ad 0)] μ (qV Q) := by
  refine vv_met (lv := [(0, .ref (ad 0))]) (by decide) hLay hEx (Nat.le_of_ble_eq_true rfl) rfl ⟨rfl, rfl⟩ (fun C hC hK hRm hLl hR hM => ?_)
  subst hLl
  have hRo : RoomOk (HPW D ac ad knM Ex (vS C)) (vR C) := HPW.room
  have L48 : ∀ (P19 : Int32 → WS → Prop) (h19 : ∀ (v1 : Int32) (μ : WS), P19 v1 μ → VV C 2 (HPW D ac ad knM Ex (vS C)) (vQ C (QcW D ac ad knM (qV Q)) 0 0 (inLay ad knM)) (μ, ()) 19 [(0, .ref (ad 0)), (1, .int v1)] []) (s0 : Int32) (μ : WS), w_X4_e_48 P19 s0 μ Q → VV C 2 (HPW D ac ad knM Ex (vS C)) (vQ C (QcW D ac ad knM (qV Q)) 0 0 (inLay ad knM)) (μ, ()) 48 [(0, .ref (ad 0))] [.int s0] := by
    intro P19 h19 s0 μ h
    unfold w_X4_e_48 at h
    refine vv_istore_n (lv' := [(1, .int s0), (0, .ref (ad 0))]) hC dX4_e_48 rfl (by decide) rfl ?_
    refine vv_goto (tgt := 19) hC dX4_e_49 rfl ?_
    refine vv_lv [1, 0] rfl ?_
    exact h19 _ _ h
  have L19 : ∀ (v1 : Int32) (μ : WS), w_X4_e_19  v1 μ Q → VV C 2 (HPW D ac ad knM Ex (vS C)) (vQ C (QcW D ac ad knM (qV Q)) 0 0 (inLay ad knM)) (μ, ()) 19 [(0, .ref (ad 0)), (1, .int v1)] [] := by
    intro  v1 μ h
    refine h (fun v1 μ => VV C 2 (HPW D ac ad knM Ex (vS C)) (vQ C (QcW D ac ad knM (qV Q)) 0 0 (inLay ad knM)) (μ, ()) 19 [(0, .ref (ad 0)), (1, .int v1)] []) ?_
    clear h; intro v1 μ h
    have h19 : ∀ (v1 : Int32) (μ : WS), (fun v1 (μ : WS) => VV C 2 (HPW D ac ad knM Ex (vS C)) (vQ C (QcW D ac ad knM (qV Q)) 0 0 (inLay ad knM)) (μ, ()) 19 [(0, .ref (ad 0)), (1, .int v1)] []) v1 μ → VV C 2 (HPW D ac ad knM Ex (vS C)) (vQ C (QcW D ac ad knM (qV Q)) 0 0 (inLay ad knM)) (μ, ()) 19 [(0, .ref (ad 0)), (1, .int v1)] [] := fun _ _ h => h
    unfold w_X4_e_19b at h
    refine vv_aload_n hC dX4_e_19 rfl 0 rfl ?_
    refine vv_callVi hC hR hK hRo hRm [] [] (met_X4_isGood (vL C) D ac ad Ex hLay hEx  μ _ h) gw4_231 mf_X4_isGood rfl lm_0 rfl rfl rfl rfl dX4_e_20 (fun r6 μ5 h => ?_)
    refine vv_if_eq (tgt := 52) hC dX4_e_23 rfl (fun c7 => ?_) (fun c7 => ?_)
    · replace h := h.1 c7
      exact vv_vret hC hM dX4_e_52 h
    · replace h := h.2 c7
      refine vv_aload_n hC dX4_e_26 rfl 0 rfl ?_
      refine vv_getf hC hR hK fa4_293 0 lm_0 (fm_33 ad _ _ _) dX4_e_27 ?_
      refine vv_if_le (tgt := 52) hC dX4_e_30 rfl (fun c8 => ?_) (fun c8 => ?_)
      · replace h := h.1 c8
        exact vv_vret hC hM dX4_e_52 h
      · replace h := h.2 c8
        refine vv_iload_n hC dX4_e_33 rfl 1 rfl ?_
        refine vv_if_eq (tgt := 44) hC dX4_e_34 rfl (fun c9 => ?_) (fun c9 => ?_)
        · replace h := h.1 c9
          refine vv_aload_n hC dX4_e_44 rfl 0 rfl ?_
          refine vv_callVi hC hR hK hRo hRm [] [] (met_X4_behindUnit (vL C) D ac ad Ex hLay hEx  μ5 _ h) gw4_305 mf_X4_behindUnit rfl lm_0 rfl rfl rfl rfl dX4_e_45 (fun r11 μ10 h => ?_)
          refine vv_lv [0] rfl ?_
          exact L48 _ h19 _ _ h
        · replace h := h.2 c9
          refine vv_aload_n hC dX4_e_37 rfl 0 rfl ?_
          refine vv_callVi hC hR hK hRo hRm [] [] (met_X4_unit (vL C) D ac ad Ex hLay hEx  μ5 _ h) gw4_302 mf_X4_unit rfl lm_0 rfl rfl rfl rfl dX4_e_38 (fun r13 μ12 h => ?_)
          refine vv_goto (tgt := 48) hC dX4_e_41 rfl ?_
          refine vv_lv [0] rfl ?_
          exact L48 _ h19 _ _ h
  unfold w_X4_e at h
  refine vv_aload_n hC dX4_e_0 rfl 0 rfl ?_
  refine vv_iconst hC dX4_e_1 ic_0 ?_
  refine vv_puti hC hR hK fa4_293 0 lm_0 fn_33 rfl rfl dX4_e_2 ?_
  refine vv_st (fun y e => ?_)
  obtain ⟨μ1, _⟩ := y
  have eμ1 := congrArg Prod.fst e
  clear e
  replace h := h μ1 eμ1
  refine vv_aload_n hC dX4_e_5 rfl 0 rfl ?_
  refine vv_iconst hC dX4_e_6 ic_0 ?_
  refine vv_puti hC hR hK fa4_296 0 lm_0 fn_32 rfl rfl dX4_e_7 ?_
  refine vv_st (fun y e => ?_)
  obtain ⟨μ2, _⟩ := y
  have eμ2 := congrArg Prod.fst e
  clear e
  replace h := h μ2 eμ2
  refine vv_aload_n hC dX4_e_10 rfl 0 rfl ?_
  refine vv_bipush hC dX4_e_11 bp_8 ?_
  refine vv_iconst hC dX4_e_13 ic_0 ?_
  refine vv_callVv hC hR hK hRo hRm [.int 8, .int 0] [] (met_X4_pushE (vL C) D ac ad Ex hLay hEx 8 0 μ2 _ h) gw4_299 mf_X4_pushE rfl lm_0 rfl rfl rfl rfl dX4_e_14 (fun μ3 h => ?_)
  refine vv_iconst hC dX4_e_17 ic_1 ?_
  refine vv_istore_n (lv' := [(1, .int 1), (0, .ref (ad 0))]) hC dX4_e_18 rfl (by decide) rfl ?_
  refine vv_lv [1, 0] rfl ?_
  exact L19  _ _ h
def w_X4_readRule (v1 : Int32) (μ : WS) (Q : WS → Prop) : Prop := (∀ μ1 : WS, μ1 = wset μ 0 34 0 → (vp_in ((8 * (μ1.1 0 30)) + v1) 16 ∧ (∀ μ2 : WS, μ2 = wset μ1 10 ((8 * (μ1.1 0 30)) + v1).toNatClampNeg (μ1.1 0 31) → (w_X4_e μ2 (fun μ3 => (vp_in ((8 * (μ3.1 0 30)) + v1) 16 ∧ (∀ μ5 : WS, μ5 = wset μ3 11 ((8 * (μ3.1 0 30)) + v1).toNatClampNeg (μ3.1 0 31) → Q μ5)))))))
abbrev rm_X4_readRule : Room := { frames := 5, cells := 0, slots := 0, locals := 107 }
theorem mf_X4_readRule : MFact yX4_readRule 1 rm_X4_readRule := ⟨by decide +kernel, rfl, rfl⟩
set_option maxHeartbeats 4000000 in
theorem met_X4_readRule (l : Launch) (D : va_G) (ac : Nat → ClassId) (ad : Nat → Nat) (Ex : Heap → Prop) (hLay : LayOk ad knM) (hEx : ExOk ad knM Ex) (v1 : Int32) (μ : WS) (Q : WS → Prop) (h : w_X4_readRule v1 μ Q) : CMet l yX4_readRule cX4_readRule 2 none rm_X4_readRule D ac ad knM Ex [.ref (ad 0), .int v1] μ (qV Q) := by
  refine vv_met (lv := [(0, .ref (ad 0)), (1, .int v1)]) (by decide) hLay hEx (Nat.le_of_ble_eq_true rfl) rfl ⟨rfl, rfl⟩ (fun C hC hK hRm hLl hR hM => ?_)
  subst hLl
  have hRo : RoomOk (HPW D ac ad knM Ex (vS C)) (vR C) := HPW.room
  unfold w_X4_readRule at h
  refine vv_aload_n hC dX4_readRule_0 rfl 0 rfl ?_
  refine vv_iconst hC dX4_readRule_1 ic_0 ?_
  refine vv_puti hC hR hK fa4_287 0 lm_0 fn_34 rfl rfl dX4_readRule_2 ?_
  refine vv_st (fun y e => ?_)
  obtain ⟨μ1, _⟩ := y
  have eμ1 := congrArg Prod.fst e
  clear e
  replace h := h μ1 eμ1
  refine vv_aload_n hC dX4_readRule_5 rfl 0 rfl ?_
  refine vv_getf hC hR hK fa4_42 0 lm_0 (fm_18 ad _ _ _) dX4_readRule_6 ?_
  refine vv_bipush hC dX4_readRule_9 bp_8 ?_
  refine vv_aload_n hC dX4_readRule_11 rfl 0 rfl ?_
  refine vv_getf hC hR hK fa4_241 0 lm_0 (fm_30 ad _ _ _) dX4_readRule_12 ?_
  refine vv_imul hC dX4_readRule_15 ?_
  refine vv_iload_n hC dX4_readRule_16 rfl 1 rfl ?_
  refine vv_iadd hC dX4_readRule_17 ?_
  refine vv_aload_n hC dX4_readRule_18 rfl 0 rfl ?_
  refine vv_getf hC hR hK fa4_244 0 lm_0 (fm_31 ad _ _ _) dX4_readRule_19 ?_
  obtain ⟨hin, h⟩ := h
  refine vv_iast hC hR hK 10 lm_10 hin dX4_readRule_22 ?_
  refine vv_st (fun y e => ?_)
  obtain ⟨μ2, _⟩ := y
  have eμ2 := congrArg Prod.fst e
  clear e
  replace h := h μ2 eμ2
  refine vv_aload_n hC dX4_readRule_23 rfl 0 rfl ?_
  refine vv_callVv hC hR hK hRo hRm [] [] (met_X4_e (vL C) D ac ad Ex hLay hEx  μ2 _ h) gw4_290 mf_X4_e rfl lm_0 rfl rfl rfl rfl dX4_readRule_24 (fun μ3 h => ?_)
  refine vv_aload_n hC dX4_readRule_27 rfl 0 rfl ?_
  refine vv_getf hC hR hK fa4_45 0 lm_0 (fm_19 ad _ _ _) dX4_readRule_28 ?_
  refine vv_bipush hC dX4_readRule_31 bp_8 ?_
  refine vv_aload_n hC dX4_readRule_33 rfl 0 rfl ?_
  refine vv_getf hC hR hK fa4_241 0 lm_0 (fm_30 ad _ _ _) dX4_readRule_34 ?_
  refine vv_imul hC dX4_readRule_37 ?_
  refine vv_iload_n hC dX4_readRule_38 rfl 1 rfl ?_
  refine vv_iadd hC dX4_readRule_39 ?_
  refine vv_aload_n hC dX4_readRule_40 rfl 0 rfl ?_
  refine vv_getf hC hR hK fa4_244 0 lm_0 (fm_31 ad _ _ _) dX4_readRule_41 ?_
  obtain ⟨hin, h⟩ := h
  refine vv_iast hC hR hK 11 lm_11 hin dX4_readRule_44 ?_
  refine vv_st (fun y e => ?_)
  obtain ⟨μ5, _⟩ := y
  have eμ5 := congrArg Prod.fst e
  clear e
  replace h := h μ5 eμ5
  exact vv_vret hC hM dX4_readRule_45 h
def w_X4_readHand_138 (μ : WS) (Q : WS → Prop) : Prop := (vp_in (μ.1 0 30) 2 ∧ (vp_in (μ.1 0 30) 2 ∧ (∀ μ34 : WS, μ34 = wset μ 5 (μ.1 0 30).toNatClampNeg ((μ.1 5 (μ.1 0 30).toNatClampNeg) + 1) → Q μ34)))
def w_X4_readHand_103 (μ : WS) (Q : WS → Prop) : Prop := (w_X4_isWord 439855377523 μ (fun r26 μ25 => (w_X4_must r26 μ25 (fun μ27 => (w_X4_isGood μ27 (fun r30 μ29 => ((r30 = 0) → w_X4_readHand_138 μ29 Q) ∧ ((¬ r30 = 0) → (vp_in (μ29.1 0 30) 2 ∧ (w_X4_readRule ((2 * (μ29.1 5 (μ29.1 0 30).toNatClampNeg)) + 1) μ29 (fun μ32 => w_X4_readHand_138 μ32 Q))))))))))
def w_X4_readHand_48 (v1 : Int32) (μ : WS) (Q : WS → Prop) : Prop := (w_X4_isGood μ (fun r11 μ10 => ((¬ r11 = 0) → (vp_in v1 8 ∧ (∀ μ13 : WS, μ13 = wsetL μ10 15 v1.toNatClampNeg (μ10.2.1 0 10) → (w_X4_goOn μ13 (fun μ14 => (w_X4_isWord 512801993331 μ14 (fun r17 μ16 => (w_X4_must r17 μ16 (fun μ18 => (w_X4_isGood μ18 (fun r21 μ20 => ((r21 = 0) → w_X4_readHand_103 μ20 Q) ∧ ((¬ r21 = 0) → (vp_in (μ20.1 0 30) 2 ∧ (w_X4_readRule (2 * (μ20.1 5 (μ20.1 0 30).toNatClampNeg)) μ20 (fun μ23 => w_X4_readHand_103 μ23 Q))))))))))))))) ∧ ((r11 = 0) → Q μ10)))
def w_X4_readHand (μ : WS) (Q : WS → Prop) : Prop := (vp_in (μ.1 0 30) 2 ∧ (∀ x1 : Int32, x1 = (4 * (μ.1 0 30)) + (μ.1 5 (μ.1 0 30).toNatClampNeg) → ((μ.1 0 8 = 2) → (w_X4_handHere μ (fun r4 μ3 => ((r4 < 0) → w_X4_readHand_48 x1 μ3 Q) ∧ ((¬ r4 < 0) → (w_X4_fails 3 (μ3.1 0 6) μ3 (fun μ6 => w_X4_readHand_48 x1 μ6 Q)))))) ∧ ((¬ μ.1 0 8 = 2) → (w_X4_misplaced μ (fun μ8 => w_X4_readHand_48 x1 μ8 Q)))))
abbrev rm_X4_readHand : Room := { frames := 6, cells := 0, slots := 0, locals := 128 }
theorem mf_X4_readHand : MFact yX4_readHand 0 rm_X4_readHand := ⟨by decide +kernel, rfl, rfl⟩
set_option maxHeartbeats 4000000 in
theorem met_X4_readHand (l : Launch) (D : va_G) (ac : Nat → ClassId) (ad : Nat → Nat) (Ex : Heap → Prop) (hLay : LayOk ad knM) (hEx : ExOk ad knM Ex) (μ : WS) (Q : WS → Prop) (h : w_X4_readHand  μ Q) : CMet l yX4_readHand cX4_readHand 2 none rm_X4_readHand D ac ad knM Ex [.ref (ad 0)] μ (qV Q) := by
  refine vv_met (lv := [(0, .ref (ad 0))]) (by decide) hLay hEx (Nat.le_of_ble_eq_true rfl) rfl ⟨rfl, rfl⟩ (fun C hC hK hRm hLl hR hM => ?_)
  subst hLl
  have hRo : RoomOk (HPW D ac ad knM Ex (vS C)) (vR C) := HPW.room
  have L138 : ∀ (μ : WS), w_X4_readHand_138   μ Q → VV C 2 (HPW D ac ad knM Ex (vS C)) (vQ C (QcW D ac ad knM (qV Q)) 0 0 (inLay ad knM)) (μ, ()) 138 [(0, .ref (ad 0))] [] := by
    intro   μ h
    unfold w_X4_readHand_138 at h
    refine vv_aload_n hC dX4_readHand_138 rfl 0 rfl ?_
    refine vv_getf hC hR hK fa4_27 0 lm_0 (fm_13 ad _ _ _) dX4_readHand_139 ?_
    refine vv_aload_n hC dX4_readHand_142 rfl 0 rfl ?_
    refine vv_getf hC hR hK fa4_241 0 lm_0 (fm_30 ad _ _ _) dX4_readHand_143 ?_
    refine vv_dup2 hC dX4_readHand_146 rfl rfl ?_
    obtain ⟨hin, h⟩ := h
    refine vv_iald hC hR hK 5 lm_5 hin dX4_readHand_147 ?_
    refine vv_iconst hC dX4_readHand_148 ic_1 ?_
    refine vv_iadd hC dX4_readHand_149 ?_
    obtain ⟨hin, h⟩ := h
    refine vv_iast hC hR hK 5 lm_5 hin dX4_readHand_150 ?_
    refine vv_st (fun y e => ?_)
    obtain ⟨μ34, _⟩ := y
    have eμ34 := congrArg Prod.fst e
    clear e
    replace h := h μ34 eμ34
    exact vv_vret hC hM dX4_readHand_151 h
  have L103 : ∀ (μ : WS), w_X4_readHand_103   μ Q → VV C 2 (HPW D ac ad knM Ex (vS C)) (vQ C (QcW D ac ad knM (qV Q)) 0 0 (inLay ad knM)) (μ, ()) 103 [(0, .ref (ad 0))] [] := by
    intro   μ h
    unfold w_X4_readHand_103 at h
    refine vv_aload_n hC dX4_readHand_103 rfl 0 rfl ?_
    refine vv_aload_n hC dX4_readHand_104 rfl 0 rfl ?_
    refine vv_ldc2 hC q1860 dX4_readHand_105 ?_
    refine vv_callVi hC hR hK hRo hRm [.long 439855377523] [.ref (ad 0)] (met_X4_isWord (vL C) D ac ad Ex hLay hEx 439855377523 μ _ h) gw4_256 mf_X4_isWord rfl lm_0 rfl rfl rfl rfl dX4_readHand_108 (fun r26 μ25 h => ?_)
    refine vv_callVv hC hR hK hRo hRm [.int r26] [] (met_X4_must (vL C) D ac ad Ex hLay hEx r26 μ25 _ h) gw4_275 mf_X4_must rfl lm_0 rfl rfl rfl rfl dX4_readHand_111 (fun μ27 h => ?_)
    refine vv_aload_n hC dX4_readHand_114 rfl 0 rfl ?_
    refine vv_callVi hC hR hK hRo hRm [] [] (met_X4_isGood (vL C) D ac ad Ex hLay hEx  μ27 _ h) gw4_231 mf_X4_isGood rfl lm_0 rfl rfl rfl rfl dX4_readHand_115 (fun r30 μ29 h => ?_)
    refine vv_if_eq (tgt := 138) hC dX4_readHand_118 rfl (fun c31 => ?_) (fun c31 => ?_)
    · replace h := h.1 c31
      exact L138  _ h
    · replace h := h.2 c31
      refine vv_aload_n hC dX4_readHand_121 rfl 0 rfl ?_
      refine vv_iconst hC dX4_readHand_122 ic_2 ?_
      refine vv_aload_n hC dX4_readHand_123 rfl 0 rfl ?_
      refine vv_getf hC hR hK fa4_27 0 lm_0 (fm_13 ad _ _ _) dX4_readHand_124 ?_
      refine vv_aload_n hC dX4_readHand_127 rfl 0 rfl ?_
      refine vv_getf hC hR hK fa4_241 0 lm_0 (fm_30 ad _ _ _) dX4_readHand_128 ?_
      obtain ⟨hin, h⟩ := h
      refine vv_iald hC hR hK 5 lm_5 hin dX4_readHand_131 ?_
      refine vv_imul hC dX4_readHand_132 ?_
      refine vv_iconst hC dX4_readHand_133 ic_1 ?_
      refine vv_iadd hC dX4_readHand_134 ?_
      refine vv_callVv hC hR hK hRo hRm [.int ((2 * (μ29.1 5 (μ29.1 0 30).toNatClampNeg)) + 1)] [] (met_X4_readRule (vL C) D ac ad Ex hLay hEx ((2 * (μ29.1 5 (μ29.1 0 30).toNatClampNeg)) + 1) μ29 _ h) gw4_283 mf_X4_readRule rfl lm_0 rfl rfl rfl rfl dX4_readHand_135 (fun μ32 h => ?_)
      exact L138  _ h
  have L48 : ∀ (v1 : Int32) (μ : WS), w_X4_readHand_48  v1 μ Q → VV C 2 (HPW D ac ad knM Ex (vS C)) (vQ C (QcW D ac ad knM (qV Q)) 0 0 (inLay ad knM)) (μ, ()) 48 [(0, .ref (ad 0)), (1, .int v1)] [] := by
    intro  v1 μ h
    unfold w_X4_readHand_48 at h
    refine vv_aload_n hC dX4_readHand_48 rfl 0 rfl ?_
    refine vv_callVi hC hR hK hRo hRm [] [] (met_X4_isGood (vL C) D ac ad Ex hLay hEx  μ _ h) gw4_231 mf_X4_isGood rfl lm_0 rfl rfl rfl rfl dX4_readHand_49 (fun r11 μ10 h => ?_)
    refine vv_if_ne (tgt := 56) hC dX4_readHand_52 rfl (fun c12 => ?_) (fun c12 => ?_)
    · replace h := h.1 c12
      refine vv_aload_n hC dX4_readHand_56 rfl 0 rfl ?_
      refine vv_getf hC hR hK fa4_58 0 lm_0 (fm_23 ad _ _ _) dX4_readHand_57 ?_
      refine vv_iload_n hC dX4_readHand_60 rfl 1 rfl ?_
      refine vv_aload_n hC dX4_readHand_61 rfl 0 rfl ?_
      refine vv_getf hC hR hK fa4_210 0 lm_0 (fm_10 ad _ _ _) dX4_readHand_62 ?_
      obtain ⟨hin, h⟩ := h
      refine vv_last hC hR hK 15 lm_15 hin dX4_readHand_65 ?_
      refine vv_st (fun y e => ?_)
      obtain ⟨μ13, _⟩ := y
      have eμ13 := congrArg Prod.fst e
      clear e
      replace h := h μ13 eμ13
      refine vv_aload_n hC dX4_readHand_66 rfl 0 rfl ?_
      refine vv_callVv hC hR hK hRo hRm [] [] (met_X4_goOn (vL C) D ac ad Ex hLay hEx  μ13 _ h) gw4_235 mf_X4_goOn rfl lm_0 rfl rfl rfl rfl dX4_readHand_67 (fun μ14 h => ?_)
      refine vv_aload_n hC dX4_readHand_70 rfl 0 rfl ?_
      refine vv_aload_n hC dX4_readHand_71 rfl 0 rfl ?_
      refine vv_ldc2 hC q1859 dX4_readHand_72 ?_
      refine vv_callVi hC hR hK hRo hRm [.long 512801993331] [.ref (ad 0)] (met_X4_isWord (vL C) D ac ad Ex hLay hEx 512801993331 μ14 _ h) gw4_256 mf_X4_isWord rfl lm_0 rfl rfl rfl rfl dX4_readHand_75 (fun r17 μ16 h => ?_)
      refine vv_callVv hC hR hK hRo hRm [.int r17] [] (met_X4_must (vL C) D ac ad Ex hLay hEx r17 μ16 _ h) gw4_275 mf_X4_must rfl lm_0 rfl rfl rfl rfl dX4_readHand_78 (fun μ18 h => ?_)
      refine vv_aload_n hC dX4_readHand_81 rfl 0 rfl ?_
      refine vv_callVi hC hR hK hRo hRm [] [] (met_X4_isGood (vL C) D ac ad Ex hLay hEx  μ18 _ h) gw4_231 mf_X4_isGood rfl lm_0 rfl rfl rfl rfl dX4_readHand_82 (fun r21 μ20 h => ?_)
      refine vv_if_eq (tgt := 103) hC dX4_readHand_85 rfl (fun c22 => ?_) (fun c22 => ?_)
      · replace h := h.1 c22
        refine vv_lv [0] rfl ?_
        exact L103  _ h
      · replace h := h.2 c22
        refine vv_aload_n hC dX4_readHand_88 rfl 0 rfl ?_
        refine vv_iconst hC dX4_readHand_89 ic_2 ?_
        refine vv_aload_n hC dX4_readHand_90 rfl 0 rfl ?_
        refine vv_getf hC hR hK fa4_27 0 lm_0 (fm_13 ad _ _ _) dX4_readHand_91 ?_
        refine vv_aload_n hC dX4_readHand_94 rfl 0 rfl ?_
        refine vv_getf hC hR hK fa4_241 0 lm_0 (fm_30 ad _ _ _) dX4_readHand_95 ?_
        obtain ⟨hin, h⟩ := h
        refine vv_iald hC hR hK 5 lm_5 hin dX4_readHand_98 ?_
        refine vv_imul hC dX4_readHand_99 ?_
        refine vv_callVv hC hR hK hRo hRm [.int (2 * (μ20.1 5 (μ20.1 0 30).toNatClampNeg))] [] (met_X4_readRule (vL C) D ac ad Ex hLay hEx (2 * (μ20.1 5 (μ20.1 0 30).toNatClampNeg)) μ20 _ h) gw4_283 mf_X4_readRule rfl lm_0 rfl rfl rfl rfl dX4_readHand_100 (fun μ23 h => ?_)
        refine vv_lv [0] rfl ?_
        exact L103  _ h
    · replace h := h.2 c12
      exact vv_vret hC hM dX4_readHand_55 h
  unfold w_X4_readHand at h
  refine vv_iconst hC dX4_readHand_0 ic_4 ?_
  refine vv_aload_n hC dX4_readHand_1 rfl 0 rfl ?_
  refine vv_getf hC hR hK fa4_241 0 lm_0 (fm_30 ad _ _ _) dX4_readHand_2 ?_
  refine vv_imul hC dX4_readHand_5 ?_
  refine vv_aload_n hC dX4_readHand_6 rfl 0 rfl ?_
  refine vv_getf hC hR hK fa4_27 0 lm_0 (fm_13 ad _ _ _) dX4_readHand_7 ?_
  refine vv_aload_n hC dX4_readHand_10 rfl 0 rfl ?_
  refine vv_getf hC hR hK fa4_241 0 lm_0 (fm_30 ad _ _ _) dX4_readHand_11 ?_
  obtain ⟨hin, h⟩ := h
  refine vv_iald hC hR hK 5 lm_5 hin dX4_readHand_14 ?_
  refine vv_iadd hC dX4_readHand_15 ?_
  refine vv_topi (fun x1 ex1 => ?_)
  replace h := h x1 ex1
  refine vv_istore_n (lv' := [(1, .int x1), (0, .ref (ad 0))]) hC dX4_readHand_16 rfl (by decide) rfl ?_
  refine vv_aload_n hC dX4_readHand_17 rfl 1 rfl ?_
  refine vv_getf hC hR hK fa4_203 0 lm_0 (fm_8 ad _ _ _) dX4_readHand_18 ?_
  refine vv_iconst hC dX4_readHand_21 ic_2 ?_
  refine vv_icmp_eq (tgt := 32) hC dX4_readHand_22 rfl (fun c2 => ?_) (fun c2 => ?_)
  · replace h := h.1 c2
    refine vv_aload_n hC dX4_readHand_32 rfl 1 rfl ?_
    refine vv_callVi hC hR hK hRo hRm [] [] (met_X4_handHere (vL C) D ac ad Ex hLay hEx  μ _ h) gw4_279 mf_X4_handHere rfl lm_0 rfl rfl rfl rfl dX4_readHand_33 (fun r4 μ3 h => ?_)
    refine vv_if_lt (tgt := 48) hC dX4_readHand_36 rfl (fun c5 => ?_) (fun c5 => ?_)
    · replace h := h.1 c5
      refine vv_lv [1, 0] rfl ?_
      exact L48  _ _ h
    · replace h := h.2 c5
      refine vv_aload_n hC dX4_readHand_39 rfl 1 rfl ?_
      refine vv_iconst hC dX4_readHand_40 ic_3 ?_
      refine vv_aload_n hC dX4_readHand_41 rfl 1 rfl ?_
      refine vv_getf hC hR hK fa4_196 0 lm_0 (fm_6 ad _ _ _) dX4_readHand_42 ?_
      refine vv_callVv hC hR hK hRo hRm [.int 3, .int (μ3.1 0 6)] [] (met_X4_fails (vL C) D ac ad Ex hLay hEx 3 (μ3.1 0 6) μ3 _ h) gw4_227 mf_X4_fails rfl lm_0 rfl rfl rfl rfl dX4_readHand_45 (fun μ6 h => ?_)
      refine vv_lv [1, 0] rfl ?_
      exact L48  _ _ h
  · replace h := h.2 c2
    refine vv_aload_n hC dX4_readHand_25 rfl 1 rfl ?_
    refine vv_callVv hC hR hK hRo hRm [] [] (met_X4_misplaced (vL C) D ac ad Ex hLay hEx  μ _ h) gw4_238 mf_X4_misplaced rfl lm_0 rfl rfl rfl rfl dX4_readHand_26 (fun μ8 h => ?_)
    refine vv_goto (tgt := 48) hC dX4_readHand_29 rfl ?_
    refine vv_lv [1, 0] rfl ?_
    exact L48  _ _ h
def w_X4_readLine_167 (μ : WS) (Q : WS → Prop) : Prop := (w_X4_isSignHere 59 μ (fun r33 μ32 => (w_X4_must r33 μ32 (fun μ34 => Q μ34))))
def w_X4_readLine_132 (v1 : Int64) (μ : WS) (Q : WS → Prop) : Prop := ((¬ lg_cmp v1 1685217655 = 0) → w_X4_readLine_167 μ Q) ∧ ((lg_cmp v1 1685217655 = 0) → (vp_in (μ.1 0 30) 2 ∧ (∀ μ28 : WS, μ28 = wset μ 14 (μ.1 0 30).toNatClampNeg (vp_nar .boolean 1) → (w_X4_numeral 0 999 μ28 (fun r30 μ29 => (vp_in (μ28.1 0 30) 2 ∧ (∀ μ31 : WS, μ31 = wset μ29 8 (μ28.1 0 30).toNatClampNeg r30 → w_X4_readLine_167 μ31 Q)))))))
def w_X4_readLine_97 (v1 : Int64) (μ : WS) (Q : WS → Prop) : Prop := ((¬ lg_cmp v1 7823736 = 0) → w_X4_readLine_132 v1 μ Q) ∧ ((lg_cmp v1 7823736 = 0) → (vp_in (μ.1 0 30) 2 ∧ (∀ μ23 : WS, μ23 = wset μ 13 (μ.1 0 30).toNatClampNeg (vp_nar .boolean 1) → (w_X4_numeral 0 999 μ23 (fun r25 μ24 => (vp_in (μ23.1 0 30) 2 ∧ (∀ μ26 : WS, μ26 = wset μ24 7 (μ23.1 0 30).toNatClampNeg r25 → w_X4_readLine_132 v1 μ26 Q)))))))
def w_X4_readLine_85 (v1 : Int64) (μ : WS) (Q : WS → Prop) : Prop := ((¬ lg_cmp v1 1751215716 = 0) → w_X4_readLine_97 v1 μ Q) ∧ ((lg_cmp v1 1751215716 = 0) → (w_X4_readHand μ (fun μ20 => w_X4_readLine_97 v1 μ20 Q)))
def w_X4_readLine_73 (v1 : Int64) (μ : WS) (Q : WS → Prop) : Prop := ((¬ lg_cmp v1 439855772532 = 0) → w_X4_readLine_85 v1 μ Q) ∧ ((lg_cmp v1 439855772532 = 0) → (w_X4_readFirst μ (fun μ17 => w_X4_readLine_85 v1 μ17 Q)))
def w_X4_readLine_24 (v1 : Int64) (μ : WS) (Q : WS → Prop) : Prop := (w_X4_isGood μ (fun r7 μ6 => ((¬ r7 = 0) → (w_X4_goOn μ6 (fun μ9 => (vp_in (μ9.1 0 30) 2 ∧ (vp_in (μ9.1 0 30) 2 ∧ (∀ μ11 : WS, μ11 = wset μ9 9 (μ9.1 0 30).toNatClampNeg ((μ9.1 9 (μ9.1 0 30).toNatClampNeg) + 1) → ((¬ lg_cmp v1 469786323827 = 0) → w_X4_readLine_73 v1 μ11 Q) ∧ ((lg_cmp v1 469786323827 = 0) → (w_X4_numeral 1 12 μ11 (fun r14 μ13 => (vp_in (μ11.1 0 30) 2 ∧ (∀ μ15 : WS, μ15 = wset μ13 3 (μ11.1 0 30).toNatClampNeg r14 → w_X4_readLine_73 v1 μ15 Q))))))))))) ∧ ((r7 = 0) → Q μ6)))
def w_X4_readLine_20 (v1 : Int64) (μ : WS) (Q : WS → Prop) : Prop := (w_X4_misplaced μ (fun μ36 => w_X4_readLine_24 v1 μ36 Q))
def w_X4_readLine (μ : WS) (Q : WS → Prop) : Prop := (∀ x1 : Int64, x1 = μ.2.1 0 10 → ((¬ μ.1 0 8 = 3) → w_X4_readLine_20 x1 μ Q) ∧ ((μ.1 0 8 = 3) → (w_X4_isFull μ (fun r4 μ3 => ((r4 = 0) → w_X4_readLine_24 x1 μ3 Q) ∧ ((¬ r4 = 0) → w_X4_readLine_20 x1 μ3 Q)))))
abbrev rm_X4_readLine : Room := { frames := 7, cells := 0, slots := 0, locals := 149 }
theorem mf_X4_readLine : MFact yX4_readLine 0 rm_X4_readLine := ⟨by decide +kernel, rfl, rfl⟩
set_option maxHeartbeats 4000000 in
theorem met_X4_readLine (l : Launch) (D : va_G) (ac : Nat → ClassId) (ad : Nat → Nat) (Ex : Heap → Prop) (hLay : LayOk ad knM) (hEx : ExOk ad knM Ex) (μ : WS) (Q : WS → Prop) (h : w_X4_readLine  μ Q) : CMet l yX4_readLine cX4_readLine 3 none rm_X4_readLine D ac ad knM Ex [.ref (ad 0)] μ (qV Q) := by
  refine vv_met (lv := [(0, .ref (ad 0))]) (by decide) hLay hEx (Nat.le_of_ble_eq_true rfl) rfl ⟨rfl, rfl⟩ (fun C hC hK hRm hLl hR hM => ?_)
  subst hLl
  have hRo : RoomOk (HPW D ac ad knM Ex (vS C)) (vR C) := HPW.room
  have L167 : ∀ (μ : WS), w_X4_readLine_167   μ Q → VV C 3 (HPW D ac ad knM Ex (vS C)) (vQ C (QcW D ac ad knM (qV Q)) 0 0 (inLay ad knM)) (μ, ()) 167 [(0, .ref (ad 0))] [] := by
    intro   μ h
    unfold w_X4_readLine_167 at h
    refine vv_aload_n hC dX4_readLine_167 rfl 0 rfl ?_
    refine vv_aload_n hC dX4_readLine_168 rfl 0 rfl ?_
    refine vv_bipush hC dX4_readLine_169 bp_59 ?_
    refine vv_callVi hC hR hK hRo hRm [.int 59] [.ref (ad 0)] (met_X4_isSignHere (vL C) D ac ad Ex hLay hEx 59 μ _ h) gw4_272 mf_X4_isSignHere rfl lm_0 rfl rfl rfl rfl dX4_readLine_171 (fun r33 μ32 h => ?_)
    refine vv_callVv hC hR hK hRo hRm [.int r33] [] (met_X4_must (vL C) D ac ad Ex hLay hEx r33 μ32 _ h) gw4_275 mf_X4_must rfl lm_0 rfl rfl rfl rfl dX4_readLine_174 (fun μ34 h => ?_)
    exact vv_vret hC hM dX4_readLine_177 h
  have L132 : ∀ (v1 : Int64) (μ : WS), w_X4_readLine_132  v1 μ Q → VV C 3 (HPW D ac ad knM Ex (vS C)) (vQ C (QcW D ac ad knM (qV Q)) 0 0 (inLay ad knM)) (μ, ()) 132 [(0, .ref (ad 0)), (1, .long v1)] [] := by
    intro  v1 μ h
    unfold w_X4_readLine_132 at h
    refine vv_lload_n hC dX4_readLine_132 rfl 1 rfl ?_
    refine vv_ldc2 hC q1862 dX4_readLine_133 ?_
    refine vv_lcmp hC dX4_readLine_136 ?_
    refine vv_if_ne (tgt := 167) hC dX4_readLine_137 rfl (fun c27 => ?_) (fun c27 => ?_)
    · replace h := h.1 c27
      refine vv_lv [0] rfl ?_
      exact L167  _ h
    · replace h := h.2 c27
      refine vv_aload_n hC dX4_readLine_140 rfl 0 rfl ?_
      refine vv_getf hC hR hK fa4_55 0 lm_0 (fm_22 ad _ _ _) dX4_readLine_141 ?_
      refine vv_aload_n hC dX4_readLine_144 rfl 0 rfl ?_
      refine vv_getf hC hR hK fa4_241 0 lm_0 (fm_30 ad _ _ _) dX4_readLine_145 ?_
      refine vv_iconst hC dX4_readLine_148 ic_1 ?_
      obtain ⟨hin, h⟩ := h
      refine vv_zast hC hR hK 14 lm_14 hin dX4_readLine_149 ?_
      refine vv_st (fun y e => ?_)
      obtain ⟨μ28, _⟩ := y
      have eμ28 := congrArg Prod.fst e
      clear e
      replace h := h μ28 eμ28
      refine vv_aload_n hC dX4_readLine_150 rfl 0 rfl ?_
      refine vv_getf hC hR hK fa4_36 0 lm_0 (fm_16 ad _ _ _) dX4_readLine_151 ?_
      refine vv_aload_n hC dX4_readLine_154 rfl 0 rfl ?_
      refine vv_getf hC hR hK fa4_241 0 lm_0 (fm_30 ad _ _ _) dX4_readLine_155 ?_
      refine vv_aload_n hC dX4_readLine_158 rfl 0 rfl ?_
      refine vv_iconst hC dX4_readLine_159 ic_0 ?_
      refine vv_sipush hC dX4_readLine_160 sp_999 ?_
      refine vv_callVi hC hR hK hRo hRm [.int 0, .int 999] [.int (μ28.1 0 30), .ref (ad 8)] (met_X4_numeral (vL C) D ac ad Ex hLay hEx 0 999 μ28 _ h) gw4_262 mf_X4_numeral rfl lm_0 rfl rfl rfl rfl dX4_readLine_163 (fun r30 μ29 h => ?_)
      obtain ⟨hin, h⟩ := h
      refine vv_iast hC hR hK 8 lm_8 hin dX4_readLine_166 ?_
      refine vv_st (fun y e => ?_)
      obtain ⟨μ31, _⟩ := y
      have eμ31 := congrArg Prod.fst e
      clear e
      replace h := h μ31 eμ31
      refine vv_lv [0] rfl ?_
      exact L167  _ h
  have L97 : ∀ (v1 : Int64) (μ : WS), w_X4_readLine_97  v1 μ Q → VV C 3 (HPW D ac ad knM Ex (vS C)) (vQ C (QcW D ac ad knM (qV Q)) 0 0 (inLay ad knM)) (μ, ()) 97 [(0, .ref (ad 0)), (1, .long v1)] [] := by
    intro  v1 μ h
    unfold w_X4_readLine_97 at h
    refine vv_lload_n hC dX4_readLine_97 rfl 1 rfl ?_
    refine vv_ldc2 hC q1861 dX4_readLine_98 ?_
    refine vv_lcmp hC dX4_readLine_101 ?_
    refine vv_if_ne (tgt := 132) hC dX4_readLine_102 rfl (fun c22 => ?_) (fun c22 => ?_)
    · replace h := h.1 c22
      exact L132  _ _ h
    · replace h := h.2 c22
      refine vv_aload_n hC dX4_readLine_105 rfl 0 rfl ?_
      refine vv_getf hC hR hK fa4_52 0 lm_0 (fm_21 ad _ _ _) dX4_readLine_106 ?_
      refine vv_aload_n hC dX4_readLine_109 rfl 0 rfl ?_
      refine vv_getf hC hR hK fa4_241 0 lm_0 (fm_30 ad _ _ _) dX4_readLine_110 ?_
      refine vv_iconst hC dX4_readLine_113 ic_1 ?_
      obtain ⟨hin, h⟩ := h
      refine vv_zast hC hR hK 13 lm_13 hin dX4_readLine_114 ?_
      refine vv_st (fun y e => ?_)
      obtain ⟨μ23, _⟩ := y
      have eμ23 := congrArg Prod.fst e
      clear e
      replace h := h μ23 eμ23
      refine vv_aload_n hC dX4_readLine_115 rfl 0 rfl ?_
      refine vv_getf hC hR hK fa4_33 0 lm_0 (fm_15 ad _ _ _) dX4_readLine_116 ?_
      refine vv_aload_n hC dX4_readLine_119 rfl 0 rfl ?_
      refine vv_getf hC hR hK fa4_241 0 lm_0 (fm_30 ad _ _ _) dX4_readLine_120 ?_
      refine vv_aload_n hC dX4_readLine_123 rfl 0 rfl ?_
      refine vv_iconst hC dX4_readLine_124 ic_0 ?_
      refine vv_sipush hC dX4_readLine_125 sp_999 ?_
      refine vv_callVi hC hR hK hRo hRm [.int 0, .int 999] [.int (μ23.1 0 30), .ref (ad 7)] (met_X4_numeral (vL C) D ac ad Ex hLay hEx 0 999 μ23 _ h) gw4_262 mf_X4_numeral rfl lm_0 rfl rfl rfl rfl dX4_readLine_128 (fun r25 μ24 h => ?_)
      obtain ⟨hin, h⟩ := h
      refine vv_iast hC hR hK 7 lm_7 hin dX4_readLine_131 ?_
      refine vv_st (fun y e => ?_)
      obtain ⟨μ26, _⟩ := y
      have eμ26 := congrArg Prod.fst e
      clear e
      replace h := h μ26 eμ26
      exact L132  _ _ h
  have L85 : ∀ (v1 : Int64) (μ : WS), w_X4_readLine_85  v1 μ Q → VV C 3 (HPW D ac ad knM Ex (vS C)) (vQ C (QcW D ac ad knM (qV Q)) 0 0 (inLay ad knM)) (μ, ()) 85 [(0, .ref (ad 0)), (1, .long v1)] [] := by
    intro  v1 μ h
    unfold w_X4_readLine_85 at h
    refine vv_lload_n hC dX4_readLine_85 rfl 1 rfl ?_
    refine vv_ldc2 hC q1858 dX4_readLine_86 ?_
    refine vv_lcmp hC dX4_readLine_89 ?_
    refine vv_if_ne (tgt := 97) hC dX4_readLine_90 rfl (fun c19 => ?_) (fun c19 => ?_)
    · replace h := h.1 c19
      exact L97  _ _ h
    · replace h := h.2 c19
      refine vv_aload_n hC dX4_readLine_93 rfl 0 rfl ?_
      refine vv_callVv hC hR hK hRo hRm [] [] (met_X4_readHand (vL C) D ac ad Ex hLay hEx  μ _ h) gw4_269 mf_X4_readHand rfl lm_0 rfl rfl rfl rfl dX4_readLine_94 (fun μ20 h => ?_)
      exact L97  _ _ h
  have L73 : ∀ (v1 : Int64) (μ : WS), w_X4_readLine_73  v1 μ Q → VV C 3 (HPW D ac ad knM Ex (vS C)) (vQ C (QcW D ac ad knM (qV Q)) 0 0 (inLay ad knM)) (μ, ()) 73 [(0, .ref (ad 0)), (1, .long v1)] [] := by
    intro  v1 μ h
    unfold w_X4_readLine_73 at h
    refine vv_lload_n hC dX4_readLine_73 rfl 1 rfl ?_
    refine vv_ldc2 hC q1857 dX4_readLine_74 ?_
    refine vv_lcmp hC dX4_readLine_77 ?_
    refine vv_if_ne (tgt := 85) hC dX4_readLine_78 rfl (fun c16 => ?_) (fun c16 => ?_)
    · replace h := h.1 c16
      exact L85  _ _ h
    · replace h := h.2 c16
      refine vv_aload_n hC dX4_readLine_81 rfl 0 rfl ?_
      refine vv_callVv hC hR hK hRo hRm [] [] (met_X4_readFirst (vL C) D ac ad Ex hLay hEx  μ _ h) gw4_266 mf_X4_readFirst rfl lm_0 rfl rfl rfl rfl dX4_readLine_82 (fun μ17 h => ?_)
      exact L85  _ _ h
  have L24 : ∀ (v1 : Int64) (μ : WS), w_X4_readLine_24  v1 μ Q → VV C 3 (HPW D ac ad knM Ex (vS C)) (vQ C (QcW D ac ad knM (qV Q)) 0 0 (inLay ad knM)) (μ, ()) 24 [(0, .ref (ad 0)), (1, .long v1)] [] := by
    intro  v1 μ h
    unfold w_X4_readLine_24 at h
    refine vv_aload_n hC dX4_readLine_24 rfl 0 rfl ?_
    refine vv_callVi hC hR hK hRo hRm [] [] (met_X4_isGood (vL C) D ac ad Ex hLay hEx  μ _ h) gw4_231 mf_X4_isGood rfl lm_0 rfl rfl rfl rfl dX4_readLine_25 (fun r7 μ6 h => ?_)
    refine vv_if_ne (tgt := 32) hC dX4_readLine_28 rfl (fun c8 => ?_) (fun c8 => ?_)
    · replace h := h.1 c8
      refine vv_aload_n hC dX4_readLine_32 rfl 0 rfl ?_
      refine vv_callVv hC hR hK hRo hRm [] [] (met_X4_goOn (vL C) D ac ad Ex hLay hEx  μ6 _ h) gw4_235 mf_X4_goOn rfl lm_0 rfl rfl rfl rfl dX4_readLine_33 (fun μ9 h => ?_)
      refine vv_aload_n hC dX4_readLine_36 rfl 0 rfl ?_
      refine vv_getf hC hR hK fa4_39 0 lm_0 (fm_17 ad _ _ _) dX4_readLine_37 ?_
      refine vv_aload_n hC dX4_readLine_40 rfl 0 rfl ?_
      refine vv_getf hC hR hK fa4_241 0 lm_0 (fm_30 ad _ _ _) dX4_readLine_41 ?_
      refine vv_dup2 hC dX4_readLine_44 rfl rfl ?_
      obtain ⟨hin, h⟩ := h
      refine vv_iald hC hR hK 9 lm_9 hin dX4_readLine_45 ?_
      refine vv_iconst hC dX4_readLine_46 ic_1 ?_
      refine vv_iadd hC dX4_readLine_47 ?_
      obtain ⟨hin, h⟩ := h
      refine vv_iast hC hR hK 9 lm_9 hin dX4_readLine_48 ?_
      refine vv_st (fun y e => ?_)
      obtain ⟨μ11, _⟩ := y
      have eμ11 := congrArg Prod.fst e
      clear e
      replace h := h μ11 eμ11
      refine vv_lload_n hC dX4_readLine_49 rfl 1 rfl ?_
      refine vv_ldc2 hC q1856 dX4_readLine_50 ?_
      refine vv_lcmp hC dX4_readLine_53 ?_
      refine vv_if_ne (tgt := 73) hC dX4_readLine_54 rfl (fun c12 => ?_) (fun c12 => ?_)
      · replace h := h.1 c12
        exact L73  _ _ h
      · replace h := h.2 c12
        refine vv_aload_n hC dX4_readLine_57 rfl 0 rfl ?_
        refine vv_getf hC hR hK fa4_20 0 lm_0 (fm_11 ad _ _ _) dX4_readLine_58 ?_
        refine vv_aload_n hC dX4_readLine_61 rfl 0 rfl ?_
        refine vv_getf hC hR hK fa4_241 0 lm_0 (fm_30 ad _ _ _) dX4_readLine_62 ?_
        refine vv_aload_n hC dX4_readLine_65 rfl 0 rfl ?_
        refine vv_iconst hC dX4_readLine_66 ic_1 ?_
        refine vv_bipush hC dX4_readLine_67 bp_12 ?_
        refine vv_callVi hC hR hK hRo hRm [.int 1, .int 12] [.int (μ11.1 0 30), .ref (ad 3)] (met_X4_numeral (vL C) D ac ad Ex hLay hEx 1 12 μ11 _ h) gw4_262 mf_X4_numeral rfl lm_0 rfl rfl rfl rfl dX4_readLine_69 (fun r14 μ13 h => ?_)
        obtain ⟨hin, h⟩ := h
        refine vv_iast hC hR hK 3 lm_3 hin dX4_readLine_72 ?_
        refine vv_st (fun y e => ?_)
        obtain ⟨μ15, _⟩ := y
        have eμ15 := congrArg Prod.fst e
        clear e
        replace h := h μ15 eμ15
        exact L73  _ _ h
    · replace h := h.2 c8
      exact vv_vret hC hM dX4_readLine_31 h
  have L20 : ∀ (v1 : Int64) (μ : WS), w_X4_readLine_20  v1 μ Q → VV C 3 (HPW D ac ad knM Ex (vS C)) (vQ C (QcW D ac ad knM (qV Q)) 0 0 (inLay ad knM)) (μ, ()) 20 [(0, .ref (ad 0)), (1, .long v1)] [] := by
    intro  v1 μ h
    unfold w_X4_readLine_20 at h
    refine vv_aload_n hC dX4_readLine_20 rfl 0 rfl ?_
    refine vv_callVv hC hR hK hRo hRm [] [] (met_X4_misplaced (vL C) D ac ad Ex hLay hEx  μ _ h) gw4_238 mf_X4_misplaced rfl lm_0 rfl rfl rfl rfl dX4_readLine_21 (fun μ36 h => ?_)
    exact L24  _ _ h
  unfold w_X4_readLine at h
  refine vv_aload_n hC dX4_readLine_0 rfl 0 rfl ?_
  refine vv_getf hC hR hK fa4_210 0 lm_0 (fm_10 ad _ _ _) dX4_readLine_1 ?_
  refine vv_topl (fun x1 ex1 => ?_)
  replace h := h x1 ex1
  refine vv_lstore_n (lv' := [(1, .long x1), (0, .ref (ad 0))]) hC dX4_readLine_4 rfl (by decide) rfl ?_
  refine vv_aload_n hC dX4_readLine_5 rfl 1 rfl ?_
  refine vv_getf hC hR hK fa4_203 0 lm_0 (fm_8 ad _ _ _) dX4_readLine_6 ?_
  refine vv_iconst hC dX4_readLine_9 ic_3 ?_
  refine vv_icmp_ne (tgt := 20) hC dX4_readLine_10 rfl (fun c2 => ?_) (fun c2 => ?_)
  · replace h := h.1 c2
    refine vv_lv [1, 0] rfl ?_
    exact L20  _ _ h
  · replace h := h.2 c2
    refine vv_aload_n hC dX4_readLine_13 rfl 1 rfl ?_
    refine vv_callVi hC hR hK hRo hRm [] [] (met_X4_isFull (vL C) D ac ad Ex hLay hEx  μ _ h) gw4_259 mf_X4_isFull rfl lm_0 rfl rfl rfl rfl dX4_readLine_14 (fun r4 μ3 h => ?_)
    refine vv_if_eq (tgt := 24) hC dX4_readLine_17 rfl (fun c5 => ?_) (fun c5 => ?_)
    · replace h := h.1 c5
      refine vv_lv [1, 0] rfl ?_
      exact L24  _ _ h
    · replace h := h.2 c5
      refine vv_lv [1, 0] rfl ?_
      exact L20  _ _ h
def w_X4_chancery_95 (μ : WS) (Q : Int32 → WS → Prop) : Prop := (w_X4_isGood μ (fun r20 μ19 => ((¬ r20 = 0) → (∀ μ22 : WS, μ22 = wset μ19 0 29 (μ19.1 0 30) → (w_X4_startAnew μ22 (fun μ23 => (vp_in (μ23.1 0 29) 2 ∧ Q (μ23.1 5 (μ23.1 0 29).toNatClampNeg) μ23))))) ∧ ((r20 = 0) → Q (-1) μ19)))
def w_X4_chancery_74b (P74 : WS → Prop) (μ : WS) (Q : Int32 → WS → Prop) : Prop := (w_X4_isGood μ (fun r14 μ13 => ((r14 = 0) → w_X4_chancery_95 μ13 Q) ∧ ((¬ r14 = 0) → ((μ13.1 0 8 = 0) → w_X4_chancery_95 μ13 Q) ∧ ((¬ μ13.1 0 8 = 0) → (w_X4_readLine μ13 (fun μ17 => P74 μ17))))))
def w_X4_chancery_74 (μ : WS) (Q : Int32 → WS → Prop) : Prop := ∀ P74 : WS → Prop, (∀ (μ : WS), w_X4_chancery_74b  P74  μ Q → P74  μ) → P74  μ
def w_X4_chancery_20b (P20 : Int32 → WS → Prop) (v1 : Int32) (μ : WS) (Q : Int32 → WS → Prop) : Prop := ((μ.1 0 3 ≤ v1) → (∀ μ5 : WS, μ5 = wset μ 0 2 0 → (∀ μ6 : WS, μ6 = wset μ5 0 7 0 → (∀ μ7 : WS, μ7 = wset μ6 0 30 (1 - (μ6.1 0 29)) → (w_X4_clearBank μ7 (fun μ8 => (w_X4_goOn μ8 (fun μ10 => w_X4_chancery_74 μ10 Q)))))))) ∧ ((¬ μ.1 0 3 ≤ v1) → (vp_in v1 1620 ∧ (vp_in v1 1600 ∧ (∀ μ12 : WS, μ12 = wset μ 2 v1.toNatClampNeg (vp_nar .byte (μ.1 1 v1.toNatClampNeg)) → P20 (v1 + 1) μ12))))
def w_X4_chancery_20 (v1 : Int32) (μ : WS) (Q : Int32 → WS → Prop) : Prop := ∀ P20 : Int32 → WS → Prop, (∀ (v1 : Int32) (μ : WS), w_X4_chancery_20b  P20 v1 μ Q → P20 v1 μ) → P20 v1 μ
def w_X4_chancery (μ : WS) (Q : Int32 → WS → Prop) : Prop := (∀ μ1 : WS, μ1 = wset μ 0 4 0 → (∀ μ2 : WS, μ2 = wset μ1 0 5 (-1) → (∀ μ3 : WS, μ3 = wset μ2 0 3 (μ2.1 0 2) → w_X4_chancery_20 0 μ3 Q)))
abbrev rm_X4_chancery : Room := { frames := 8, cells := 0, slots := 0, locals := 171 }
theorem mf_X4_chancery : MFact yX4_chancery 0 rm_X4_chancery := ⟨by decide +kernel, rfl, rfl⟩
set_option maxHeartbeats 4000000 in
theorem met_X4_chancery (l : Launch) (D : va_G) (ac : Nat → ClassId) (ad : Nat → Nat) (Ex : Heap → Prop) (hLay : LayOk ad knM) (hEx : ExOk ad knM Ex) (μ : WS) (Q : Int32 → WS → Prop) (h : w_X4_chancery  μ Q) : CMet l yX4_chancery cX4_chancery 2 (some .int) rm_X4_chancery D ac ad knM Ex [.ref (ad 0)] μ (qI Q) := by
  refine vv_met (lv := [(0, .ref (ad 0))]) (by decide) hLay hEx (Nat.le_of_ble_eq_true rfl) rfl ⟨rfl, rfl⟩ (fun C hC hK hRm hLl hR hM => ?_)
  subst hLl
  have hRo : RoomOk (HPW D ac ad knM Ex (vS C)) (vR C) := HPW.room
  have L95 : ∀ (μ : WS), w_X4_chancery_95   μ Q → VV C 2 (HPW D ac ad knM Ex (vS C)) (vQ C (QcW D ac ad knM (qI Q)) 0 0 (inLay ad knM)) (μ, ()) 95 [(0, .ref (ad 0))] [] := by
    intro   μ h
    unfold w_X4_chancery_95 at h
    refine vv_aload_n hC dX4_chancery_95 rfl 0 rfl ?_
    refine vv_callVi hC hR hK hRo hRm [] [] (met_X4_isGood (vL C) D ac ad Ex hLay hEx  μ _ h) gw4_231 mf_X4_isGood rfl lm_0 rfl rfl rfl rfl dX4_chancery_96 (fun r20 μ19 h => ?_)
    refine vv_if_ne (tgt := 104) hC dX4_chancery_99 rfl (fun c21 => ?_) (fun c21 => ?_)
    · replace h := h.1 c21
      refine vv_aload_n hC dX4_chancery_104 rfl 0 rfl ?_
      refine vv_aload_n hC dX4_chancery_105 rfl 0 rfl ?_
      refine vv_getf hC hR hK fa4_241 0 lm_0 (fm_30 ad _ _ _) dX4_chancery_106 ?_
      refine vv_puti hC hR hK fa4_250 0 lm_0 fn_29 rfl rfl dX4_chancery_109 ?_
      refine vv_st (fun y e => ?_)
      obtain ⟨μ22, _⟩ := y
      have eμ22 := congrArg Prod.fst e
      clear e
      replace h := h μ22 eμ22
      refine vv_aload_n hC dX4_chancery_112 rfl 0 rfl ?_
      refine vv_callVv hC hR hK hRo hRm [] [] (met_X4_startAnew (vL C) D ac ad Ex hLay hEx  μ22 _ h) gw4_150 mf_X4_startAnew rfl lm_0 rfl rfl rfl rfl dX4_chancery_113 (fun μ23 h => ?_)
      refine vv_aload_n hC dX4_chancery_116 rfl 0 rfl ?_
      refine vv_getf hC hR hK fa4_27 0 lm_0 (fm_13 ad _ _ _) dX4_chancery_117 ?_
      refine vv_aload_n hC dX4_chancery_120 rfl 0 rfl ?_
      refine vv_getf hC hR hK fa4_250 0 lm_0 (fm_29 ad _ _ _) dX4_chancery_121 ?_
      obtain ⟨hin, h⟩ := h
      refine vv_iald hC hR hK 5 lm_5 hin dX4_chancery_124 ?_
      exact vv_iret hC hM dX4_chancery_125 h
    · replace h := h.2 c21
      refine vv_iconst hC dX4_chancery_102 ic_m1 ?_
      exact vv_iret hC hM dX4_chancery_103 h
  have L74 : ∀ (μ : WS), w_X4_chancery_74   μ Q → VV C 2 (HPW D ac ad knM Ex (vS C)) (vQ C (QcW D ac ad knM (qI Q)) 0 0 (inLay ad knM)) (μ, ()) 74 [(0, .ref (ad 0))] [] := by
    intro   μ h
    refine h (fun μ => VV C 2 (HPW D ac ad knM Ex (vS C)) (vQ C (QcW D ac ad knM (qI Q)) 0 0 (inLay ad knM)) (μ, ()) 74 [(0, .ref (ad 0))] []) ?_
    clear h; intro  μ h
    have h74 : ∀ (μ : WS), (fun  (μ : WS) => VV C 2 (HPW D ac ad knM Ex (vS C)) (vQ C (QcW D ac ad knM (qI Q)) 0 0 (inLay ad knM)) (μ, ()) 74 [(0, .ref (ad 0))] [])  μ → VV C 2 (HPW D ac ad knM Ex (vS C)) (vQ C (QcW D ac ad knM (qI Q)) 0 0 (inLay ad knM)) (μ, ()) 74 [(0, .ref (ad 0))] [] := fun  _ h => h
    unfold w_X4_chancery_74b at h
    refine vv_aload_n hC dX4_chancery_74 rfl 0 rfl ?_
    refine vv_callVi hC hR hK hRo hRm [] [] (met_X4_isGood (vL C) D ac ad Ex hLay hEx  μ _ h) gw4_231 mf_X4_isGood rfl lm_0 rfl rfl rfl rfl dX4_chancery_75 (fun r14 μ13 h => ?_)
    refine vv_if_eq (tgt := 95) hC dX4_chancery_78 rfl (fun c15 => ?_) (fun c15 => ?_)
    · replace h := h.1 c15
      exact L95  _ h
    · replace h := h.2 c15
      refine vv_aload_n hC dX4_chancery_81 rfl 0 rfl ?_
      refine vv_getf hC hR hK fa4_203 0 lm_0 (fm_8 ad _ _ _) dX4_chancery_82 ?_
      refine vv_if_eq (tgt := 95) hC dX4_chancery_85 rfl (fun c16 => ?_) (fun c16 => ?_)
      · replace h := h.1 c16
        exact L95  _ h
      · replace h := h.2 c16
        refine vv_aload_n hC dX4_chancery_88 rfl 0 rfl ?_
        refine vv_callVv hC hR hK hRo hRm [] [] (met_X4_readLine (vL C) D ac ad Ex hLay hEx  μ13 _ h) gw4_253 mf_X4_readLine rfl lm_0 rfl rfl rfl rfl dX4_chancery_89 (fun μ17 h => ?_)
        refine vv_goto (tgt := 74) hC dX4_chancery_92 rfl ?_
        exact h74 _ h
  have L20 : ∀ (v1 : Int32) (μ : WS), w_X4_chancery_20  v1 μ Q → VV C 2 (HPW D ac ad knM Ex (vS C)) (vQ C (QcW D ac ad knM (qI Q)) 0 0 (inLay ad knM)) (μ, ()) 20 [(0, .ref (ad 0)), (1, .int v1)] [] := by
    intro  v1 μ h
    refine h (fun v1 μ => VV C 2 (HPW D ac ad knM Ex (vS C)) (vQ C (QcW D ac ad knM (qI Q)) 0 0 (inLay ad knM)) (μ, ()) 20 [(0, .ref (ad 0)), (1, .int v1)] []) ?_
    clear h; intro v1 μ h
    have h20 : ∀ (v1 : Int32) (μ : WS), (fun v1 (μ : WS) => VV C 2 (HPW D ac ad knM Ex (vS C)) (vQ C (QcW D ac ad knM (qI Q)) 0 0 (inLay ad knM)) (μ, ()) 20 [(0, .ref (ad 0)), (1, .int v1)] []) v1 μ → VV C 2 (HPW D ac ad knM Ex (vS C)) (vQ C (QcW D ac ad knM (qI Q)) 0 0 (inLay ad knM)) (μ, ()) 20 [(0, .ref (ad 0)), (1, .int v1)] [] := fun _ _ h => h
    unfold w_X4_chancery_20b at h
    refine vv_iload_n hC dX4_chancery_20 rfl 1 rfl ?_
    refine vv_aload_n hC dX4_chancery_21 rfl 0 rfl ?_
    refine vv_getf hC hR hK fa4_153 0 lm_0 (fm_3 ad _ _ _) dX4_chancery_22 ?_
    refine vv_icmp_ge (tgt := 46) hC dX4_chancery_25 rfl (fun c4 => ?_) (fun c4 => ?_)
    · replace h := h.1 c4
      refine vv_aload_n hC dX4_chancery_46 rfl 0 rfl ?_
      refine vv_iconst hC dX4_chancery_47 ic_0 ?_
      refine vv_puti hC hR hK fa4_247 0 lm_0 fn_2 rfl rfl dX4_chancery_48 ?_
      refine vv_st (fun y e => ?_)
      obtain ⟨μ5, _⟩ := y
      have eμ5 := congrArg Prod.fst e
      clear e
      replace h := h μ5 eμ5
      refine vv_aload_n hC dX4_chancery_51 rfl 0 rfl ?_
      refine vv_iconst hC dX4_chancery_52 ic_0 ?_
      refine vv_puti hC hR hK fa4_193 0 lm_0 fn_7 rfl rfl dX4_chancery_53 ?_
      refine vv_st (fun y e => ?_)
      obtain ⟨μ6, _⟩ := y
      have eμ6 := congrArg Prod.fst e
      clear e
      replace h := h μ6 eμ6
      refine vv_aload_n hC dX4_chancery_56 rfl 0 rfl ?_
      refine vv_iconst hC dX4_chancery_57 ic_1 ?_
      refine vv_aload_n hC dX4_chancery_58 rfl 0 rfl ?_
      refine vv_getf hC hR hK fa4_250 0 lm_0 (fm_29 ad _ _ _) dX4_chancery_59 ?_
      refine vv_isub hC dX4_chancery_62 ?_
      refine vv_puti hC hR hK fa4_241 0 lm_0 fn_30 rfl rfl dX4_chancery_63 ?_
      refine vv_st (fun y e => ?_)
      obtain ⟨μ7, _⟩ := y
      have eμ7 := congrArg Prod.fst e
      clear e
      replace h := h μ7 eμ7
      refine vv_aload_n hC dX4_chancery_66 rfl 0 rfl ?_
      refine vv_callVv hC hR hK hRo hRm [] [] (met_X4_clearBank (vL C) D ac ad Ex hLay hEx  μ7 _ h) gw4_147 mf_X4_clearBank rfl lm_0 rfl rfl rfl rfl dX4_chancery_67 (fun μ8 h => ?_)
      refine vv_aload_n hC dX4_chancery_70 rfl 0 rfl ?_
      refine vv_callVv hC hR hK hRo hRm [] [] (met_X4_goOn (vL C) D ac ad Ex hLay hEx  μ8 _ h) gw4_235 mf_X4_goOn rfl lm_0 rfl rfl rfl rfl dX4_chancery_71 (fun μ10 h => ?_)
      refine vv_lv [0] rfl ?_
      exact L74  _ h
    · replace h := h.2 c4
      refine vv_aload_n hC dX4_chancery_28 rfl 0 rfl ?_
      refine vv_getf hC hR hK fa4_13 0 lm_0 (fm_1 ad _ _ _) dX4_chancery_29 ?_
      refine vv_iload_n hC dX4_chancery_32 rfl 1 rfl ?_
      refine vv_aload_n hC dX4_chancery_33 rfl 0 rfl ?_
      refine vv_getf hC hR hK fa4_7 0 lm_0 (fm_0 ad _ _ _) dX4_chancery_34 ?_
      refine vv_iload_n hC dX4_chancery_37 rfl 1 rfl ?_
      obtain ⟨hin, h⟩ := h
      refine vv_bald hC hR hK 1 lm_1 hin dX4_chancery_38 ?_
      obtain ⟨hin, h⟩ := h
      refine vv_bast hC hR hK 2 lm_2 hin dX4_chancery_39 ?_
      refine vv_st (fun y e => ?_)
      obtain ⟨μ12, _⟩ := y
      have eμ12 := congrArg Prod.fst e
      clear e
      replace h := h μ12 eμ12
      refine vv_iinc (pl := 1) (v := v1 + 1) (lv' := [(1, .int (v1 + 1)), (0, .ref (ad 0))]) hC dX4_chancery_40 rfl rfl (by decide) rfl ?_
      refine vv_goto (tgt := 20) hC dX4_chancery_43 rfl ?_
      refine vv_lv [1, 0] rfl ?_
      exact h20 _ _ h
  unfold w_X4_chancery at h
  refine vv_aload_n hC dX4_chancery_0 rfl 0 rfl ?_
  refine vv_iconst hC dX4_chancery_1 ic_0 ?_
  refine vv_puti hC hR hK fa4_156 0 lm_0 fn_4 rfl rfl dX4_chancery_2 ?_
  refine vv_st (fun y e => ?_)
  obtain ⟨μ1, _⟩ := y
  have eμ1 := congrArg Prod.fst e
  clear e
  replace h := h μ1 eμ1
  refine vv_aload_n hC dX4_chancery_5 rfl 0 rfl ?_
  refine vv_iconst hC dX4_chancery_6 ic_m1 ?_
  refine vv_puti hC hR hK fa4_16 0 lm_0 fn_5 rfl rfl dX4_chancery_7 ?_
  refine vv_st (fun y e => ?_)
  obtain ⟨μ2, _⟩ := y
  have eμ2 := congrArg Prod.fst e
  clear e
  replace h := h μ2 eμ2
  refine vv_aload_n hC dX4_chancery_10 rfl 0 rfl ?_
  refine vv_aload_n hC dX4_chancery_11 rfl 0 rfl ?_
  refine vv_getf hC hR hK fa4_247 0 lm_0 (fm_2 ad _ _ _) dX4_chancery_12 ?_
  refine vv_puti hC hR hK fa4_153 0 lm_0 fn_3 rfl rfl dX4_chancery_15 ?_
  refine vv_st (fun y e => ?_)
  obtain ⟨μ3, _⟩ := y
  have eμ3 := congrArg Prod.fst e
  clear e
  replace h := h μ3 eμ3
  refine vv_iconst hC dX4_chancery_18 ic_0 ?_
  refine vv_istore_n (lv' := [(1, .int 0), (0, .ref (ad 0))]) hC dX4_chancery_19 rfl (by decide) rfl ?_
  refine vv_lv [1, 0] rfl ?_
  exact L20  _ _ h
def w_X4_fault (v1 : Int32) (μ : WS) (Q : Int32 → WS → Prop) : Prop := ((¬ v1 = 0) → ((¬ v1 = 1) → Q (-1) μ) ∧ ((v1 = 1) → Q (μ.1 0 5) μ)) ∧ ((v1 = 0) → Q (μ.1 0 4) μ)
abbrev rm_X4_fault : Room := { frames := 0, cells := 0, slots := 0, locals := 0 }
theorem mf_X4_fault : MFact yX4_fault 1 rm_X4_fault := ⟨by decide +kernel, rfl, rfl⟩
set_option maxHeartbeats 4000000 in
theorem met_X4_fault (l : Launch) (D : va_G) (ac : Nat → ClassId) (ad : Nat → Nat) (Ex : Heap → Prop) (hLay : LayOk ad knM) (hEx : ExOk ad knM Ex) (v1 : Int32) (μ : WS) (Q : Int32 → WS → Prop) (h : w_X4_fault v1 μ Q) : CMet l yX4_fault cX4_fault 2 (some .int) rm_X4_fault D ac ad knM Ex [.ref (ad 0), .int v1] μ (qI Q) := by
  refine vv_met (lv := [(0, .ref (ad 0)), (1, .int v1)]) (by decide) hLay hEx (Nat.le_of_ble_eq_true rfl) rfl ⟨rfl, rfl⟩ (fun C hC hK hRm hLl hR hM => ?_)
  subst hLl
  have hRo : RoomOk (HPW D ac ad knM Ex (vS C)) (vR C) := HPW.room
  unfold w_X4_fault at h
  refine vv_iload_n hC dX4_fault_0 rfl 1 rfl ?_
  refine vv_if_ne (tgt := 11) hC dX4_fault_1 rfl (fun c1 => ?_) (fun c1 => ?_)
  · replace h := h.1 c1
    refine vv_iload_n hC dX4_fault_11 rfl 1 rfl ?_
    refine vv_iconst hC dX4_fault_12 ic_1 ?_
    refine vv_icmp_ne (tgt := 23) hC dX4_fault_13 rfl (fun c2 => ?_) (fun c2 => ?_)
    · replace h := h.1 c2
      refine vv_iconst hC dX4_fault_23 ic_m1 ?_
      exact vv_iret hC hM dX4_fault_24 h
    · replace h := h.2 c2
      refine vv_aload_n hC dX4_fault_16 rfl 0 rfl ?_
      refine vv_getf hC hR hK fa4_16 0 lm_0 (fm_5 ad _ _ _) dX4_fault_17 ?_
      refine vv_goto (tgt := 24) hC dX4_fault_20 rfl ?_
      exact vv_iret hC hM dX4_fault_24 h
  · replace h := h.2 c1
    refine vv_aload_n hC dX4_fault_4 rfl 0 rfl ?_
    refine vv_getf hC hR hK fa4_156 0 lm_0 (fm_4 ad _ _ _) dX4_fault_5 ?_
    refine vv_goto (tgt := 24) hC dX4_fault_8 rfl ?_
    exact vv_iret hC hM dX4_fault_24 h
def w_X4_width (μ : WS) (Q : Int32 → WS → Prop) : Prop := (vp_in (μ.1 0 29) 2 ∧ Q (μ.1 3 (μ.1 0 29).toNatClampNeg) μ)
abbrev rm_X4_width : Room := { frames := 0, cells := 0, slots := 0, locals := 0 }
theorem mf_X4_width : MFact yX4_width 0 rm_X4_width := ⟨by decide +kernel, rfl, rfl⟩
set_option maxHeartbeats 4000000 in
theorem met_X4_width (l : Launch) (D : va_G) (ac : Nat → ClassId) (ad : Nat → Nat) (Ex : Heap → Prop) (hLay : LayOk ad knM) (hEx : ExOk ad knM Ex) (μ : WS) (Q : Int32 → WS → Prop) (h : w_X4_width  μ Q) : CMet l yX4_width cX4_width 1 (some .int) rm_X4_width D ac ad knM Ex [.ref (ad 0)] μ (qI Q) := by
  refine vv_met (lv := [(0, .ref (ad 0))]) (by decide) hLay hEx (Nat.le_of_ble_eq_true rfl) rfl ⟨rfl, rfl⟩ (fun C hC hK hRm hLl hR hM => ?_)
  subst hLl
  have hRo : RoomOk (HPW D ac ad knM Ex (vS C)) (vR C) := HPW.room
  unfold w_X4_width at h
  refine vv_aload_n hC dX4_width_0 rfl 0 rfl ?_
  refine vv_getf hC hR hK fa4_20 0 lm_0 (fm_11 ad _ _ _) dX4_width_1 ?_
  refine vv_aload_n hC dX4_width_4 rfl 0 rfl ?_
  refine vv_getf hC hR hK fa4_250 0 lm_0 (fm_29 ad _ _ _) dX4_width_5 ?_
  obtain ⟨hin, h⟩ := h
  refine vv_iald hC hR hK 3 lm_3 hin dX4_width_8 ?_
  exact vv_iret hC hM dX4_width_9 h
def w_X4_isRow (v1 : Int32) (μ : WS) (Q : Int32 → WS → Prop) : Prop := ((v1 < 0) → Q 0 μ) ∧ ((¬ v1 < 0) → (w_X4_width μ (fun r3 μ2 => ((1 <<< (r3 &&& 31) ≤ v1) → Q 0 μ2) ∧ ((¬ 1 <<< (r3 &&& 31) ≤ v1) → Q 1 μ2))))
abbrev rm_X4_isRow : Room := { frames := 1, cells := 0, slots := 0, locals := 20 }
theorem mf_X4_isRow : MFact yX4_isRow 1 rm_X4_isRow := ⟨by decide +kernel, rfl, rfl⟩
set_option maxHeartbeats 4000000 in
theorem met_X4_isRow (l : Launch) (D : va_G) (ac : Nat → ClassId) (ad : Nat → Nat) (Ex : Heap → Prop) (hLay : LayOk ad knM) (hEx : ExOk ad knM Ex) (v1 : Int32) (μ : WS) (Q : Int32 → WS → Prop) (h : w_X4_isRow v1 μ Q) : CMet l yX4_isRow cX4_isRow 2 (some .boolean) rm_X4_isRow D ac ad knM Ex [.ref (ad 0), .int v1] μ (qI Q) := by
  refine vv_met (lv := [(0, .ref (ad 0)), (1, .int v1)]) (by decide) hLay hEx (Nat.le_of_ble_eq_true rfl) rfl ⟨rfl, rfl⟩ (fun C hC hK hRm hLl hR hM => ?_)
  subst hLl
  have hRo : RoomOk (HPW D ac ad knM Ex (vS C)) (vR C) := HPW.room
  unfold w_X4_isRow at h
  refine vv_iload_n hC dX4_isRow_0 rfl 1 rfl ?_
  refine vv_if_lt (tgt := 18) hC dX4_isRow_1 rfl (fun c1 => ?_) (fun c1 => ?_)
  · replace h := h.1 c1
    refine vv_iconst hC dX4_isRow_18 ic_0 ?_
    exact vv_zret hC hM dX4_isRow_19 isB_0 h
  · replace h := h.2 c1
    refine vv_iload_n hC dX4_isRow_4 rfl 1 rfl ?_
    refine vv_iconst hC dX4_isRow_5 ic_1 ?_
    refine vv_aload_n hC dX4_isRow_6 rfl 0 rfl ?_
    refine vv_callVi hC hR hK hRo hRm [] [.int 1, .int v1] (met_X4_width (vL C) D ac ad Ex hLay hEx  μ _ h) gw4_342 mf_X4_width rfl lm_0 rfl rfl rfl rfl dX4_isRow_7 (fun r3 μ2 h => ?_)
    refine vv_ishl hC dX4_isRow_10 ?_
    refine vv_icmp_ge (tgt := 18) hC dX4_isRow_11 rfl (fun c4 => ?_) (fun c4 => ?_)
    · replace h := h.1 c4
      refine vv_iconst hC dX4_isRow_18 ic_0 ?_
      exact vv_zret hC hM dX4_isRow_19 isB_0 h
    · replace h := h.2 c4
      refine vv_iconst hC dX4_isRow_14 ic_1 ?_
      refine vv_goto (tgt := 19) hC dX4_isRow_15 rfl ?_
      exact vv_zret hC hM dX4_isRow_19 isB_1 h
