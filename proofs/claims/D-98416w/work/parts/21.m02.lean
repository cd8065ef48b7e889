set_option maxRecDepth 100000
def w_X4_fades_22b (P22 : Int32 → Int32 → Int32 → Int32 → WS → Prop) (v2 : Int32) (v3 : Int32) (v4 : Int32) (v5 : Int32) (μ : WS) (Q : Int32 → WS → Prop) : Prop := ((4096 < v5) → Q (-1) μ) ∧ ((¬ 4096 < v5) → ((¬ v4 = 0) → (w_X4_castOf v4 v2 v3 0 μ (fun r9 μ8 => P22 v2 v3 r9 (v5 + 1) μ8))) ∧ ((v4 = 0) → Q v5 μ))
def w_X4_fades_22 (v2 : Int32) (v3 : Int32) (v4 : Int32) (v5 : Int32) (μ : WS) (Q : Int32 → WS → Prop) : Prop := ∀ P22 : Int32 → Int32 → Int32 → Int32 → WS → Prop, (∀ (v2 : Int32) (v3 : Int32) (v4 : Int32) (v5 : Int32) (μ : WS), w_X4_fades_22b  P22 v2 v3 v4 v5 μ Q → P22 v2 v3 v4 v5 μ) → P22 v2 v3 v4 v5 μ
def w_X4_fades (v1 : Int32) (v2 : Int32) (v3 : Int32) (μ : WS) (Q : Int32 → WS → Prop) : Prop := (w_X4_canCast v1 v2 v3 μ (fun r2 μ1 => ((¬ r2 = 0) → (w_X4_rowOf v1 μ1 (fun r5 μ4 => w_X4_fades_22 v2 v3 r5 0 μ4 Q))) ∧ ((r2 = 0) → Q (-1) μ1)))
abbrev rm_X4_fades : Room := { frames := 3, cells := 0, slots := 0, locals := 74 }
theorem mf_X4_fades : MFact yX4_fades 3 rm_X4_fades := ⟨by decide +kernel, rfl, rfl⟩
set_option maxHeartbeats 4000000 in
theorem met_X4_fades (l : Launch) (D : va_G) (ac : Nat → ClassId) (ad : Nat → Nat) (Ex : Heap → Prop) (hLay : LayOk ad knM) (hEx : ExOk ad knM Ex) (v1 : Int32) (v2 : Int32) (v3 : Int32) (μ : WS) (Q : Int32 → WS → Prop) (h : w_X4_fades v1 v2 v3 μ Q) : CMet l yX4_fades cX4_fades 6 (some .int) rm_X4_fades D ac ad knM Ex [.ref (ad 0), .int v1, .int v2, .int v3] μ (qI Q) := by
  refine vv_met (lv := [(0, .ref (ad 0)), (1, .int v1), (2, .int v2), (3, .int v3)]) (by decide) hLay hEx (Nat.le_of_ble_eq_true rfl) rfl ⟨rfl, rfl⟩ (fun C hC hK hRm hLl hR hM => ?_)
  subst hLl
  have hRo : RoomOk (HPW D ac ad knM Ex (vS C)) (vR C) := HPW.room
  have L22 : ∀ (v2 : Int32) (v3 : Int32) (v4 : Int32) (v5 : Int32) (μ : WS), w_X4_fades_22  v2 v3 v4 v5 μ Q → VV C 6 (HPW D ac ad knM Ex (vS C)) (vQ C (QcW D ac ad knM (qI Q)) 0 0 (inLay ad knM)) (μ, ()) 22 [(0, .ref (ad 0)), (2, .int v2), (3, .int v3), (4, .int v4), (5, .int v5)] [] := by
    intro  v2 v3 v4 v5 μ h
    refine h (fun v2 v3 v4 v5 μ => VV C 6 (HPW D ac ad knM Ex (vS C)) (vQ C (QcW D ac ad knM (qI Q)) 0 0 (inLay ad knM)) (μ, ()) 22 [(0, .ref (ad 0)), (2, .int v2), (3, .int v3), (4, .int v4), (5, .int v5)] []) ?_
    clear h; intro v2 v3 v4 v5 μ h
    have h22 : ∀ (v2 : Int32) (v3 : Int32) (v4 : Int32) (v5 : Int32) (μ : WS), (fun v2 v3 v4 v5 (μ : WS) => VV C 6 (HPW D ac ad knM Ex (vS C)) (vQ C (QcW D ac ad knM (qI Q)) 0 0 (inLay ad knM)) (μ, ()) 22 [(0, .ref (ad 0)), (2, .int v2), (3, .int v3), (4, .int v4), (5, .int v5)] []) v2 v3 v4 v5 μ → VV C 6 (HPW D ac ad knM Ex (vS C)) (vQ C (QcW D ac ad knM (qI Q)) 0 0 (inLay ad knM)) (μ, ()) 22 [(0, .ref (ad 0)), (2, .int v2), (3, .int v3), (4, .int v4), (5, .int v5)] [] := fun _ _ _ _ _ h => h
    unfold w_X4_fades_22b at h
    refine vv_iload hC dX4_fades_22 4 rfl ?_
    refine vv_sipush hC dX4_fades_24 sp_4096 ?_
    refine vv_icmp_gt (tgt := 55) hC dX4_fades_27 rfl (fun c6 => ?_) (fun c6 => ?_)
    · replace h := h.1 c6
      refine vv_iconst hC dX4_fades_55 ic_m1 ?_
      exact vv_iret hC hM dX4_fades_56 h
    · replace h := h.2 c6
      refine vv_iload hC dX4_fades_30 3 rfl ?_
      refine vv_if_ne (tgt := 38) hC dX4_fades_32 rfl (fun c7 => ?_) (fun c7 => ?_)
      · replace h := h.1 c7
        refine vv_aload_n hC dX4_fades_38 rfl 0 rfl ?_
        refine vv_iload hC dX4_fades_39 3 rfl ?_
        refine vv_iload_n hC dX4_fades_41 rfl 1 rfl ?_
        refine vv_iload_n hC dX4_fades_42 rfl 2 rfl ?_
        refine vv_iconst hC dX4_fades_43 ic_0 ?_
        refine vv_callVi hC hR hK hRo hRm [.int v4, .int v2, .int v3, .int 0] [] (met_X4_castOf (vL C) D ac ad Ex hLay hEx v4 v2 v3 0 μ _ h) gw4_367 mf_X4_castOf rfl lm_0 rfl rfl rfl rfl dX4_fades_44 (fun r9 μ8 h => ?_)
        refine vv_istore (lv' := [(4, .int r9), (0, .ref (ad 0)), (2, .int v2), (3, .int v3), (5, .int v5)]) hC dX4_fades_47 (by decide) rfl ?_
        refine vv_iinc (pl := 4) (v := v5 + 1) (lv' := [(5, .int (v5 + 1)), (4, .int r9), (0, .ref (ad 0)), (2, .int v2), (3, .int v3)]) hC dX4_fades_49 rfl rfl (by decide) rfl ?_
        refine vv_goto (tgt := 22) hC dX4_fades_52 rfl ?_
        refine vv_lv [2, 3, 4, 1, 0] rfl ?_
        exact h22 _ _ _ _ _ h
      · replace h := h.2 c7
        refine vv_iload hC dX4_fades_35 4 rfl ?_
        exact vv_iret hC hM dX4_fades_37 h
  unfold w_X4_fades at h
  refine vv_aload_n hC dX4_fades_0 rfl 0 rfl ?_
  refine vv_iload_n hC dX4_fades_1 rfl 1 rfl ?_
  refine vv_iload_n hC dX4_fades_2 rfl 2 rfl ?_
  refine vv_iload_n hC dX4_fades_3 rfl 3 rfl ?_
  refine vv_callVi hC hR hK hRo hRm [.int v1, .int v2, .int v3] [] (met_X4_canCast (vL C) D ac ad Ex hLay hEx v1 v2 v3 μ _ h) gw4_398 mf_X4_canCast rfl lm_0 rfl rfl rfl rfl dX4_fades_4 (fun r2 μ1 h => ?_)
  refine vv_if_ne (tgt := 12) hC dX4_fades_7 rfl (fun c3 => ?_) (fun c3 => ?_)
  · replace h := h.1 c3
    refine vv_aload_n hC dX4_fades_12 rfl 0 rfl ?_
    refine vv_iload_n hC dX4_fades_13 rfl 1 rfl ?_
    refine vv_callVi hC hR hK hRo hRm [.int v1] [] (met_X4_rowOf (vL C) D ac ad Ex hLay hEx v1 μ1 _ h) gw4_392 mf_X4_rowOf rfl lm_0 rfl rfl rfl rfl dX4_fades_14 (fun r5 μ4 h => ?_)
    refine vv_istore (lv' := [(4, .int r5), (0, .ref (ad 0)), (1, .int v1), (2, .int v2), (3, .int v3)]) hC dX4_fades_17 (by decide) rfl ?_
    refine vv_iconst hC dX4_fades_19 ic_0 ?_
    refine vv_istore (lv' := [(5, .int 0), (4, .int r5), (0, .ref (ad 0)), (1, .int v1), (2, .int v2), (3, .int v3)]) hC dX4_fades_20 (by decide) rfl ?_
    refine vv_lv [2, 4, 5, 1, 0] rfl ?_
    exact L22  _ _ _ _ _ h
  · replace h := h.2 c3
    refine vv_iconst hC dX4_fades_10 ic_m1 ?_
    exact vv_iret hC hM dX4_fades_11 h
def w_X4_kinOf_5b (P5 : Int32 → Int32 → WS → Prop) (v3 : Int32) (v4 : Int32) (μ : WS) (Q : Int32 → WS → Prop) : Prop := ((v3 = v4) → Q v3 μ) ∧ ((¬ v3 = v4) → ((v3 ≤ v4) → (vp_in ((4 * v4) + 1) 221 ∧ (∀ x3 : Int32, x3 = μ.1 21 ((4 * v4) + 1).toNatClampNeg → P5 v3 x3 μ))) ∧ ((¬ v3 ≤ v4) → (vp_in ((4 * v3) + 1) 221 ∧ (∀ x4 : Int32, x4 = μ.1 21 ((4 * v3) + 1).toNatClampNeg → P5 x4 v4 μ))))
def w_X4_kinOf_5 (v3 : Int32) (v4 : Int32) (μ : WS) (Q : Int32 → WS → Prop) : Prop := ∀ P5 : Int32 → Int32 → WS → Prop, (∀ (v3 : Int32) (v4 : Int32) (μ : WS), w_X4_kinOf_5b  P5 v3 v4 μ Q → P5 v3 v4 μ) → P5 v3 v4 μ
def w_X4_kinOf (v1 : Int32) (v2 : Int32) (μ : WS) (Q : Int32 → WS → Prop) : Prop := w_X4_kinOf_5 v1 v2 μ Q
abbrev rm_X4_kinOf : Room := { frames := 0, cells := 0, slots := 0, locals := 0 }
theorem mf_X4_kinOf : MFact yX4_kinOf 2 rm_X4_kinOf := ⟨by decide +kernel, rfl, rfl⟩
set_option maxHeartbeats 4000000 in
theorem met_X4_kinOf (l : Launch) (D : va_G) (ac : Nat → ClassId) (ad : Nat → Nat) (Ex : Heap → Prop) (hLay : LayOk ad knM) (hEx : ExOk ad knM Ex) (v1 : Int32) (v2 : Int32) (μ : WS) (Q : Int32 → WS → Prop) (h : w_X4_kinOf v1 v2 μ Q) : CMet l yX4_kinOf cX4_kinOf 5 (some .int) rm_X4_kinOf D ac ad knM Ex [.ref (ad 0), .int v1, .int v2] μ (qI Q) := by
  refine vv_met (lv := [(0, .ref (ad 0)), (1, .int v1), (2, .int v2)]) (by decide) hLay hEx (Nat.le_of_ble_eq_true rfl) rfl ⟨rfl, rfl⟩ (fun C hC hK hRm hLl hR hM => ?_)
  subst hLl
  have hRo : RoomOk (HPW D ac ad knM Ex (vS C)) (vR C) := HPW.room
  have L5 : ∀ (v3 : Int32) (v4 : Int32) (μ : WS), w_X4_kinOf_5  v3 v4 μ Q → VV C 5 (HPW D ac ad knM Ex (vS C)) (vQ C (QcW D ac ad knM (qI Q)) 0 0 (inLay ad knM)) (μ, ()) 5 [(0, .ref (ad 0)), (3, .int v3), (4, .int v4)] [] := by
    intro  v3 v4 μ h
    refine h (fun v3 v4 μ => VV C 5 (HPW D ac ad knM Ex (vS C)) (vQ C (QcW D ac ad knM (qI Q)) 0 0 (inLay ad knM)) (μ, ()) 5 [(0, .ref (ad 0)), (3, .int v3), (4, .int v4)] []) ?_
    clear h; intro v3 v4 μ h
    have h5 : ∀ (v3 : Int32) (v4 : Int32) (μ : WS), (fun v3 v4 (μ : WS) => VV C 5 (HPW D ac ad knM Ex (vS C)) (vQ C (QcW D ac ad knM (qI Q)) 0 0 (inLay ad knM)) (μ, ()) 5 [(0, .ref (ad 0)), (3, .int v3), (4, .int v4)] []) v3 v4 μ → VV C 5 (HPW D ac ad knM Ex (vS C)) (vQ C (QcW D ac ad knM (qI Q)) 0 0 (inLay ad knM)) (μ, ()) 5 [(0, .ref (ad 0)), (3, .int v3), (4, .int v4)] [] := fun _ _ _ h => h
    unfold w_X4_kinOf_5b at h
    refine vv_iload_n hC dX4_kinOf_5 rfl 1 rfl ?_
    refine vv_iload hC dX4_kinOf_6 2 rfl ?_
    refine vv_icmp_eq (tgt := 47) hC dX4_kinOf_8 rfl (fun c1 => ?_) (fun c1 => ?_)
    · replace h := h.1 c1
      refine vv_iload_n hC dX4_kinOf_47 rfl 1 rfl ?_
      exact vv_iret hC hM dX4_kinOf_48 h
    · replace h := h.2 c1
      refine vv_iload_n hC dX4_kinOf_11 rfl 1 rfl ?_
      refine vv_iload hC dX4_kinOf_12 2 rfl ?_
      refine vv_icmp_le (tgt := 31) hC dX4_kinOf_14 rfl (fun c2 => ?_) (fun c2 => ?_)
      · replace h := h.1 c2
        refine vv_aload_n hC dX4_kinOf_31 rfl 0 rfl ?_
        refine vv_getf hC hR hK fa4_77 0 lm_0 (fm_40 ad _ _ _) dX4_kinOf_32 ?_
        refine vv_iconst hC dX4_kinOf_35 ic_4 ?_
        refine vv_iload hC dX4_kinOf_36 2 rfl ?_
        refine vv_imul hC dX4_kinOf_38 ?_
        refine vv_iconst hC dX4_kinOf_39 ic_1 ?_
        refine vv_iadd hC dX4_kinOf_40 ?_
        obtain ⟨hin, h⟩ := h
        refine vv_iald hC hR hK 21 lm_21 hin dX4_kinOf_41 ?_
        refine vv_topi (fun x3 ex3 => ?_)
        replace h := h x3 ex3
        refine vv_istore (lv' := [(4, .int x3), (0, .ref (ad 0)), (3, .int v3)]) hC dX4_kinOf_42 (by decide) rfl ?_
        refine vv_goto (tgt := 5) hC dX4_kinOf_44 rfl ?_
        refine vv_lv [1, 2, 0] rfl ?_
        exact h5 _ _ _ h
      · replace h := h.2 c2
        refine vv_aload_n hC dX4_kinOf_17 rfl 0 rfl ?_
        refine vv_getf hC hR hK fa4_77 0 lm_0 (fm_40 ad _ _ _) dX4_kinOf_18 ?_
        refine vv_iconst hC dX4_kinOf_21 ic_4 ?_
        refine vv_iload_n hC dX4_kinOf_22 rfl 1 rfl ?_
        refine vv_imul hC dX4_kinOf_23 ?_
        refine vv_iconst hC dX4_kinOf_24 ic_1 ?_
        refine vv_iadd hC dX4_kinOf_25 ?_
        obtain ⟨hin, h⟩ := h
        refine vv_iald hC hR hK 21 lm_21 hin dX4_kinOf_26 ?_
        refine vv_topi (fun x4 ex4 => ?_)
        replace h := h x4 ex4
        refine vv_istore_n (lv' := [(3, .int x4), (0, .ref (ad 0)), (4, .int v4)]) hC dX4_kinOf_27 rfl (by decide) rfl ?_
        refine vv_goto (tgt := 5) hC dX4_kinOf_28 rfl ?_
        refine vv_lv [1, 0, 2] rfl ?_
        exact h5 _ _ _ h
  unfold w_X4_kinOf at h
  refine vv_iload_n hC dX4_kinOf_0 rfl 1 rfl ?_
  refine vv_istore_n (lv' := [(3, .int v1), (0, .ref (ad 0)), (1, .int v1), (2, .int v2)]) hC dX4_kinOf_1 rfl (by decide) rfl ?_
  refine vv_iload_n hC dX4_kinOf_2 rfl 3 rfl ?_
  refine vv_istore (lv' := [(4, .int v2), (3, .int v1), (0, .ref (ad 0)), (1, .int v1), (2, .int v2)]) hC dX4_kinOf_3 (by decide) rfl ?_
  refine vv_lv [2, 1, 0] rfl ?_
  exact L5  _ _ _ h
def w_X4_kin (v1 : Int32) (v2 : Int32) (v3 : Int32) (μ : WS) (Q : Int32 → WS → Prop) : Prop := (w_X4_isSeal v1 μ (fun r2 μ1 => ((r2 = 0) → Q (-1) μ1) ∧ ((¬ r2 = 0) → (w_X4_isSeal v2 μ1 (fun r5 μ4 => ((r5 = 0) → Q (-1) μ4) ∧ ((¬ r5 = 0) → (w_X4_isIn v3 0 1 μ4 (fun r8 μ7 => ((¬ r8 = 0) → (w_X4_kinOf v1 v2 μ7 (fun r11 μ10 => ((¬ v3 = 0) → (w_X4_deep v1 μ10 (fun r14 μ13 => (w_X4_deep v2 μ13 (fun r16 μ15 => (w_X4_deep r11 μ15 (fun r18 μ17 => Q ((r14 + r16) - (2 * r18)) μ17))))))) ∧ ((v3 = 0) → Q r11 μ10)))) ∧ ((r8 = 0) → Q (-1) μ7)))))))))
abbrev rm_X4_kin : Room := { frames := 2, cells := 0, slots := 0, locals := 43 }
theorem mf_X4_kin : MFact yX4_kin 3 rm_X4_kin := ⟨by decide +kernel, rfl, rfl⟩
set_option maxHeartbeats 4000000 in
theorem met_X4_kin (l : Launch) (D : va_G) (ac : Nat → ClassId) (ad : Nat → Nat) (Ex : Heap → Prop) (hLay : LayOk ad knM) (hEx : ExOk ad knM Ex) (v1 : Int32) (v2 : Int32) (v3 : Int32) (μ : WS) (Q : Int32 → WS → Prop) (h : w_X4_kin v1 v2 v3 μ Q) : CMet l yX4_kin cX4_kin 5 (some .int) rm_X4_kin D ac ad knM Ex [.ref (ad 0), .int v1, .int v2, .int v3] μ (qI Q) := by
  refine vv_met (lv := [(0, .ref (ad 0)), (1, .int v1), (2, .int v2), (3, .int v3)]) (by decide) hLay hEx (Nat.le_of_ble_eq_true rfl) rfl ⟨rfl, rfl⟩ (fun C hC hK hRm hLl hR hM => ?_)
  subst hLl
  have hRo : RoomOk (HPW D ac ad knM Ex (vS C)) (vR C) := HPW.room
  unfold w_X4_kin at h
  refine vv_aload_n hC dX4_kin_0 rfl 0 rfl ?_
  refine vv_iload_n hC dX4_kin_1 rfl 1 rfl ?_
  refine vv_callVi hC hR hK hRo hRm [.int v1] [] (met_X4_isSeal (vL C) D ac ad Ex hLay hEx v1 μ _ h) gw4_383 mf_X4_isSeal rfl lm_0 rfl rfl rfl rfl dX4_kin_2 (fun r2 μ1 h => ?_)
  refine vv_if_eq (tgt := 25) hC dX4_kin_5 rfl (fun c3 => ?_) (fun c3 => ?_)
  · replace h := h.1 c3
    refine vv_iconst hC dX4_kin_25 ic_m1 ?_
    exact vv_iret hC hM dX4_kin_26 h
  · replace h := h.2 c3
    refine vv_aload_n hC dX4_kin_8 rfl 0 rfl ?_
    refine vv_iload_n hC dX4_kin_9 rfl 2 rfl ?_
    refine vv_callVi hC hR hK hRo hRm [.int v2] [] (met_X4_isSeal (vL C) D ac ad Ex hLay hEx v2 μ1 _ h) gw4_383 mf_X4_isSeal rfl lm_0 rfl rfl rfl rfl dX4_kin_10 (fun r5 μ4 h => ?_)
    refine vv_if_eq (tgt := 25) hC dX4_kin_13 rfl (fun c6 => ?_) (fun c6 => ?_)
    · replace h := h.1 c6
      refine vv_iconst hC dX4_kin_25 ic_m1 ?_
      exact vv_iret hC hM dX4_kin_26 h
    · replace h := h.2 c6
      refine vv_iload_n hC dX4_kin_16 rfl 3 rfl ?_
      refine vv_iconst hC dX4_kin_17 ic_0 ?_
      refine vv_iconst hC dX4_kin_18 ic_1 ?_
      refine vv_callSi hC hR hK hRo hRm [.int v3, .int 0, .int 1] [] (met_X4_isIn (vL C) D ac ad Ex hLay hEx v3 0 1 μ4 _ h) gw4_345 mf_X4_isIn rfl rfl rfl dX4_kin_19 (fun r8 μ7 h => ?_)
      refine vv_if_ne (tgt := 27) hC dX4_kin_22 rfl (fun c9 => ?_) (fun c9 => ?_)
      · replace h := h.1 c9
        refine vv_aload_n hC dX4_kin_27 rfl 0 rfl ?_
        refine vv_iload_n hC dX4_kin_28 rfl 1 rfl ?_
        refine vv_iload_n hC dX4_kin_29 rfl 2 rfl ?_
        refine vv_callVi hC hR hK hRo hRm [.int v1, .int v2] [] (met_X4_kinOf (vL C) D ac ad Ex hLay hEx v1 v2 μ7 _ h) gw4_404 mf_X4_kinOf rfl lm_0 rfl rfl rfl rfl dX4_kin_30 (fun r11 μ10 h => ?_)
        refine vv_istore (lv' := [(4, .int r11), (0, .ref (ad 0)), (1, .int v1), (2, .int v2), (3, .int v3)]) hC dX4_kin_33 (by decide) rfl ?_
        refine vv_iload_n hC dX4_kin_35 rfl 4 rfl ?_
        refine vv_if_ne (tgt := 44) hC dX4_kin_36 rfl (fun c12 => ?_) (fun c12 => ?_)
        · replace h := h.1 c12
          refine vv_aload_n hC dX4_kin_44 rfl 1 rfl ?_
          refine vv_iload_n hC dX4_kin_45 rfl 2 rfl ?_
          refine vv_callVi hC hR hK hRo hRm [.int v1] [] (met_X4_deep (vL C) D ac ad Ex hLay hEx v1 μ10 _ h) gw4_386 mf_X4_deep rfl lm_0 rfl rfl rfl rfl dX4_kin_46 (fun r14 μ13 h => ?_)
          refine vv_aload_n hC dX4_kin_49 rfl 1 rfl ?_
          refine vv_iload_n hC dX4_kin_50 rfl 3 rfl ?_
          refine vv_callVi hC hR hK hRo hRm [.int v2] [.int r14] (met_X4_deep (vL C) D ac ad Ex hLay hEx v2 μ13 _ h) gw4_386 mf_X4_deep rfl lm_0 rfl rfl rfl rfl dX4_kin_51 (fun r16 μ15 h => ?_)
          refine vv_iadd hC dX4_kin_54 ?_
          refine vv_iconst hC dX4_kin_55 ic_2 ?_
          refine vv_aload_n hC dX4_kin_56 rfl 1 rfl ?_
          refine vv_iload hC dX4_kin_57 0 rfl ?_
          refine vv_callVi hC hR hK hRo hRm [.int r11] [.int 2, .int (r14 + r16)] (met_X4_deep (vL C) D ac ad Ex hLay hEx r11 μ15 _ h) gw4_386 mf_X4_deep rfl lm_0 rfl rfl rfl rfl dX4_kin_59 (fun r18 μ17 h => ?_)
          refine vv_imul hC dX4_kin_62 ?_
          refine vv_isub hC dX4_kin_63 ?_
          exact vv_iret hC hM dX4_kin_64 h
        · replace h := h.2 c12
          refine vv_iload hC dX4_kin_39 0 rfl ?_
          refine vv_goto (tgt := 64) hC dX4_kin_41 rfl ?_
          exact vv_iret hC hM dX4_kin_64 h
      · replace h := h.2 c9
        refine vv_iconst hC dX4_kin_25 ic_m1 ?_
        exact vv_iret hC hM dX4_kin_26 h
def w_X4_thumb_42b (P42 : Int32 → Int32 → WS → Prop) (v3 : Int32) (v4 : Int32) (μ : WS) (Q : Int32 → WS → Prop) : Prop := ((v3 ≤ 0) → Q (-1) μ) ∧ ((¬ v3 ≤ 0) → (vp_in ((4 * v3) + 1) 221 ∧ (∀ x13 : Int32, x13 = μ.1 21 ((4 * v3) + 1).toNatClampNeg → (w_X4_width μ (fun r15 μ14 => (∀ x16 : Int32, x16 = (r15 - 1) - v4 → (w_X4_rowOf x13 μ14 (fun r18 μ17 => ((¬ (r18 >>> (x16 &&& 31)) &&& 1 = 0) → P42 x13 x16 μ17) ∧ (((r18 >>> (x16 &&& 31)) &&& 1 = 0) → (vp_in ((4 * v3) + 2) 221 ∧ Q (μ17.1 21 ((4 * v3) + 2).toNatClampNeg) μ17))))))))))
def w_X4_thumb_42 (v3 : Int32) (v4 : Int32) (μ : WS) (Q : Int32 → WS → Prop) : Prop := ∀ P42 : Int32 → Int32 → WS → Prop, (∀ (v3 : Int32) (v4 : Int32) (μ : WS), w_X4_thumb_42b  P42 v3 v4 μ Q → P42 v3 v4 μ) → P42 v3 v4 μ
def w_X4_thumb (v1 : Int32) (v2 : Int32) (μ : WS) (Q : Int32 → WS → Prop) : Prop := (w_X4_isSeal v1 μ (fun r2 μ1 => ((r2 = 0) → Q (-2) μ1) ∧ ((¬ r2 = 0) → (w_X4_width μ1 (fun r5 μ4 => (w_X4_isIn v2 0 (r5 - 1) μ4 (fun r7 μ6 => ((r7 = 0) → Q (-2) μ6) ∧ ((¬ r7 = 0) → (w_X4_rowOf v1 μ6 (fun r10 μ9 => ((¬ (r10 >>> (v2 &&& 31)) &&& 1 = 0) → w_X4_thumb_42 v1 v2 μ9 Q) ∧ (((r10 >>> (v2 &&& 31)) &&& 1 = 0) → Q (-2) μ9)))))))))))
abbrev rm_X4_thumb : Room := { frames := 2, cells := 0, slots := 0, locals := 43 }
theorem mf_X4_thumb : MFact yX4_thumb 2 rm_X4_thumb := ⟨by decide +kernel, rfl, rfl⟩
set_option maxHeartbeats 4000000 in
theorem met_X4_thumb (l : Launch) (D : va_G) (ac : Nat → ClassId) (ad : Nat → Nat) (Ex : Heap → Prop) (hLay : LayOk ad knM) (hEx : ExOk ad knM Ex) (v1 : Int32) (v2 : Int32) (μ : WS) (Q : Int32 → WS → Prop) (h : w_X4_thumb v1 v2 μ Q) : CMet l yX4_thumb cX4_thumb 6 (some .int) rm_X4_thumb D ac ad knM Ex [.ref (ad 0), .int v1, .int v2] μ (qI Q) := by
  refine vv_met (lv := [(0, .ref (ad 0)), (1, .int v1), (2, .int v2)]) (by decide) hLay hEx (Nat.le_of_ble_eq_true rfl) rfl ⟨rfl, rfl⟩ (fun C hC hK hRm hLl hR hM => ?_)
  subst hLl
  have hRo : RoomOk (HPW D ac ad knM Ex (vS C)) (vR C) := HPW.room
  have L42 : ∀ (v3 : Int32) (v4 : Int32) (μ : WS), w_X4_thumb_42  v3 v4 μ Q → VV C 6 (HPW D ac ad knM Ex (vS C)) (vQ C (QcW D ac ad knM (qI Q)) 0 0 (inLay ad knM)) (μ, ()) 42 [(0, .ref (ad 0)), (3, .int v3), (4, .int v4)] [] := by
    intro  v3 v4 μ h
    refine h (fun v3 v4 μ => VV C 6 (HPW D ac ad knM Ex (vS C)) (vQ C (QcW D ac ad knM (qI Q)) 0 0 (inLay ad knM)) (μ, ()) 42 [(0, .ref (ad 0)), (3, .int v3), (4, .int v4)] []) ?_
    clear h; intro v3 v4 μ h
    have h42 : ∀ (v3 : Int32) (v4 : Int32) (μ : WS), (fun v3 v4 (μ : WS) => VV C 6 (HPW D ac ad knM Ex (vS C)) (vQ C (QcW D ac ad knM (qI Q)) 0 0 (inLay ad knM)) (μ, ()) 42 [(0, .ref (ad 0)), (3, .int v3), (4, .int v4)] []) v3 v4 μ → VV C 6 (HPW D ac ad knM Ex (vS C)) (vQ C (QcW D ac ad knM (qI Q)) 0 0 (inLay ad knM)) (μ, ()) 42 [(0, .ref (ad 0)), (3, .int v3), (4, .int v4)] [] := fun _ _ _ h => h
    unfold w_X4_thumb_42b at h
    refine vv_iload_n hC dX4_thumb_42 rfl 1 rfl ?_
    refine vv_if_le (tgt := 100) hC dX4_thumb_43 rfl (fun c12 => ?_) (fun c12 => ?_)
    · replace h := h.1 c12
      refine vv_iconst hC dX4_thumb_100 ic_m1 ?_
      exact vv_iret hC hM dX4_thumb_101 h
    · replace h := h.2 c12
      refine vv_aload_n hC dX4_thumb_46 rfl 0 rfl ?_
      refine vv_getf hC hR hK fa4_77 0 lm_0 (fm_40 ad _ _ _) dX4_thumb_47 ?_
      refine vv_iconst hC dX4_thumb_50 ic_4 ?_
      refine vv_iload_n hC dX4_thumb_51 rfl 1 rfl ?_
      refine vv_imul hC dX4_thumb_52 ?_
      refine vv_iconst hC dX4_thumb_53 ic_1 ?_
      refine vv_iadd hC dX4_thumb_54 ?_
      obtain ⟨hin, h⟩ := h
      refine vv_iald hC hR hK 21 lm_21 hin dX4_thumb_55 ?_
      refine vv_topi (fun x13 ex13 => ?_)
      replace h := h x13 ex13
      refine vv_istore (lv' := [(5, .int x13), (0, .ref (ad 0)), (3, .int v3), (4, .int v4)]) hC dX4_thumb_56 (by decide) rfl ?_
      refine vv_aload_n hC dX4_thumb_58 rfl 1 rfl ?_
      refine vv_callVi hC hR hK hRo hRm [] [] (met_X4_width (vL C) D ac ad Ex hLay hEx  μ _ h) gw4_342 mf_X4_width rfl lm_0 rfl rfl rfl rfl dX4_thumb_59 (fun r15 μ14 h => ?_)
      refine vv_iconst hC dX4_thumb_62 ic_1 ?_
      refine vv_isub hC dX4_thumb_63 ?_
      refine vv_iload hC dX4_thumb_64 3 rfl ?_
      refine vv_isub hC dX4_thumb_66 ?_
      refine vv_topi (fun x16 ex16 => ?_)
      replace h := h x16 ex16
      refine vv_istore (lv' := [(4, .int x16), (5, .int x13), (0, .ref (ad 0)), (3, .int v3)]) hC dX4_thumb_67 (by decide) rfl ?_
      refine vv_aload_n hC dX4_thumb_69 rfl 2 rfl ?_
      refine vv_iload hC dX4_thumb_70 1 rfl ?_
      refine vv_callVi hC hR hK hRo hRm [.int x13] [] (met_X4_rowOf (vL C) D ac ad Ex hLay hEx x13 μ14 _ h) gw4_392 mf_X4_rowOf rfl lm_0 rfl rfl rfl rfl dX4_thumb_72 (fun r18 μ17 h => ?_)
      refine vv_iload hC dX4_thumb_75 0 rfl ?_
      refine vv_ishr hC dX4_thumb_77 ?_
      refine vv_iconst hC dX4_thumb_78 ic_1 ?_
      refine vv_iand hC dX4_thumb_79 ?_
      refine vv_if_ne (tgt := 94) hC dX4_thumb_80 rfl (fun c19 => ?_) (fun c19 => ?_)
      · replace h := h.1 c19
        refine vv_iload hC dX4_thumb_94 1 rfl ?_
        refine vv_istore_n (lv' := [(3, .int x13), (4, .int x16), (5, .int x13), (0, .ref (ad 0))]) hC dX4_thumb_96 rfl (by decide) rfl ?_
        refine vv_goto (tgt := 42) hC dX4_thumb_97 rfl ?_
        refine vv_lv [3, 0, 1] rfl ?_
        exact h42 _ _ _ h
      · replace h := h.2 c19
        refine vv_aload_n hC dX4_thumb_83 rfl 2 rfl ?_
        refine vv_getf hC hR hK fa4_77 0 lm_0 (fm_40 ad _ _ _) dX4_thumb_84 ?_
        refine vv_iconst hC dX4_thumb_87 ic_4 ?_
        refine vv_iload_n hC dX4_thumb_88 rfl 3 rfl ?_
        refine vv_imul hC dX4_thumb_89 ?_
        refine vv_iconst hC dX4_thumb_90 ic_2 ?_
        refine vv_iadd hC dX4_thumb_91 ?_
        obtain ⟨hin, h⟩ := h
        refine vv_iald hC hR hK 21 lm_21 hin dX4_thumb_92 ?_
        exact vv_iret hC hM dX4_thumb_93 h
  unfold w_X4_thumb at h
  refine vv_aload_n hC dX4_thumb_0 rfl 0 rfl ?_
  refine vv_iload_n hC dX4_thumb_1 rfl 1 rfl ?_
  refine vv_callVi hC hR hK hRo hRm [.int v1] [] (met_X4_isSeal (vL C) D ac ad Ex hLay hEx v1 μ _ h) gw4_383 mf_X4_isSeal rfl lm_0 rfl rfl rfl rfl dX4_thumb_2 (fun r2 μ1 h => ?_)
  refine vv_if_eq (tgt := 34) hC dX4_thumb_5 rfl (fun c3 => ?_) (fun c3 => ?_)
  · replace h := h.1 c3
    refine vv_bipush hC dX4_thumb_34 bp_m2 ?_
    exact vv_iret hC hM dX4_thumb_36 h
  · replace h := h.2 c3
    refine vv_iload_n hC dX4_thumb_8 rfl 2 rfl ?_
    refine vv_iconst hC dX4_thumb_9 ic_0 ?_
    refine vv_aload_n hC dX4_thumb_10 rfl 0 rfl ?_
    refine vv_callVi hC hR hK hRo hRm [] [.int 0, .int v2] (met_X4_width (vL C) D ac ad Ex hLay hEx  μ1 _ h) gw4_342 mf_X4_width rfl lm_0 rfl rfl rfl rfl dX4_thumb_11 (fun r5 μ4 h => ?_)
    refine vv_iconst hC dX4_thumb_14 ic_1 ?_
    refine vv_isub hC dX4_thumb_15 ?_
    refine vv_callSi hC hR hK hRo hRm [.int v2, .int 0, .int (r5 - 1)] [] (met_X4_isIn (vL C) D ac ad Ex hLay hEx v2 0 (r5 - 1) μ4 _ h) gw4_345 mf_X4_isIn rfl rfl rfl dX4_thumb_16 (fun r7 μ6 h => ?_)
    refine vv_if_eq (tgt := 34) hC dX4_thumb_19 rfl (fun c8 => ?_) (fun c8 => ?_)
    · replace h := h.1 c8
      refine vv_bipush hC dX4_thumb_34 bp_m2 ?_
      exact vv_iret hC hM dX4_thumb_36 h
    · replace h := h.2 c8
      refine vv_aload_n hC dX4_thumb_22 rfl 0 rfl ?_
      refine vv_iload_n hC dX4_thumb_23 rfl 1 rfl ?_
      refine vv_callVi hC hR hK hRo hRm [.int v1] [] (met_X4_rowOf (vL C) D ac ad Ex hLay hEx v1 μ6 _ h) gw4_392 mf_X4_rowOf rfl lm_0 rfl rfl rfl rfl dX4_thumb_24 (fun r10 μ9 h => ?_)
      refine vv_iload_n hC dX4_thumb_27 rfl 2 rfl ?_
      refine vv_ishr hC dX4_thumb_28 ?_
      refine vv_iconst hC dX4_thumb_29 ic_1 ?_
      refine vv_iand hC dX4_thumb_30 ?_
      refine vv_if_ne (tgt := 37) hC dX4_thumb_31 rfl (fun c11 => ?_) (fun c11 => ?_)
      · replace h := h.1 c11
        refine vv_iload_n hC dX4_thumb_37 rfl 1 rfl ?_
        refine vv_istore_n (lv' := [(3, .int v1), (0, .ref (ad 0)), (1, .int v1), (2, .int v2)]) hC dX4_thumb_38 rfl (by decide) rfl ?_
        refine vv_iload_n hC dX4_thumb_39 rfl 3 rfl ?_
        refine vv_istore (lv' := [(4, .int v2), (3, .int v1), (0, .ref (ad 0)), (1, .int v1), (2, .int v2)]) hC dX4_thumb_40 (by decide) rfl ?_
        refine vv_lv [2, 1, 0] rfl ?_
        exact L42  _ _ _ h
      · replace h := h.2 c11
        refine vv_bipush hC dX4_thumb_34 bp_m2 ?_
        exact vv_iret hC hM dX4_thumb_36 h
def w_X4_layShares_169 (P131 : Int32 → Int32 → WS → Prop) (P142 : Int32 → Int32 → Int32 → Int32 → WS → Prop) (v2 : Int32) (v4 : Int32) (v5 : Int32) (v6 : Int32) (μ : WS) (Q : WS → Prop) : Prop := P142 v2 v4 v5 (v6 + 1) μ
def w_X4_layShares_142b (P131 : Int32 → Int32 → WS → Prop) (P142 : Int32 → Int32 → Int32 → Int32 → WS → Prop) (v2 : Int32) (v4 : Int32) (v5 : Int32) (v6 : Int32) (μ : WS) (Q : WS → Prop) : Prop := ((v2 ≤ v6) → (vp_in v5 4 ∧ (vp_in v5 4 ∧ (∀ μ19 : WS, μ19 = wset μ 24 v5.toNatClampNeg ((μ.1 24 v5.toNatClampNeg) + 1) → (vp_in v5 4 ∧ (∀ μ20 : WS, μ20 = wset μ19 25 v5.toNatClampNeg (-1) → P131 v2 (v4 + (-1)) μ20)))))) ∧ ((¬ v2 ≤ v6) → (vp_in v6 4 ∧ (vp_in v5 4 ∧ ((μ.1 25 v6.toNatClampNeg ≤ μ.1 25 v5.toNatClampNeg) → w_X4_layShares_169 P131 P142 v2 v4 v5 v6 μ Q) ∧ ((¬ μ.1 25 v6.toNatClampNeg ≤ μ.1 25 v5.toNatClampNeg) → w_X4_layShares_169 P131 P142 v2 v4 v6 v6 μ Q))))
def w_X4_layShares_142 (P131 : Int32 → Int32 → WS → Prop) (v2 : Int32) (v4 : Int32) (v5 : Int32) (v6 : Int32) (μ : WS) (Q : WS → Prop) : Prop := ∀ P142 : Int32 → Int32 → Int32 → Int32 → WS → Prop, (∀ (v2 : Int32) (v4 : Int32) (v5 : Int32) (v6 : Int32) (μ : WS), w_X4_layShares_142b P131 P142 v2 v4 v5 v6 μ Q → P142 v2 v4 v5 v6 μ) → P142 v2 v4 v5 v6 μ
def w_X4_layShares_131b (P131 : Int32 → Int32 → WS → Prop) (v2 : Int32) (v4 : Int32) (μ : WS) (Q : WS → Prop) : Prop := ((v4 ≤ 0) → Q μ) ∧ ((¬ v4 ≤ 0) → w_X4_layShares_142 P131 v2 v4 0 1 μ Q)
def w_X4_layShares_131 (v2 : Int32) (v4 : Int32) (μ : WS) (Q : WS → Prop) : Prop := ∀ P131 : Int32 → Int32 → WS → Prop, (∀ (v2 : Int32) (v4 : Int32) (μ : WS), w_X4_layShares_131b  P131 v2 v4 μ Q → P131 v2 v4 μ) → P131 v2 v4 μ
def w_X4_layShares_107 (P12 : Int32 → Int32 → Int32 → Int32 → Int32 → WS → Prop) (s0 : Int32) (s1 : Int32) (v1 : Int32) (v2 : Int32) (v3 : Int32) (v4 : Int32) (v5 : Int32) (μ : WS) (Q : WS → Prop) : Prop := (vp_in s1 4 ∧ (∀ μ15 : WS, μ15 = wset μ 25 s1.toNatClampNeg s0 → (vp_in v5 4 ∧ (∀ x16 : Int32, x16 = v4 - (μ15.1 24 v5.toNatClampNeg) → P12 v1 v2 v3 x16 (v5 + 1) μ15))))
def w_X4_layShares_85 (P12 : Int32 → Int32 → Int32 → Int32 → Int32 → WS → Prop) (s0 : Int32) (s1 : Int32) (v1 : Int32) (v2 : Int32) (v3 : Int32) (v4 : Int32) (v5 : Int32) (v6 : Int32) (μ : WS) (Q : WS → Prop) : Prop := (vp_in s1 4 ∧ (∀ μ13 : WS, μ13 = wset μ 24 s1.toNatClampNeg s0 → ((¬ v3 = 0) → (¬ v3 = 0 ∧ w_X4_layShares_107 P12 ((100 * v6) - (100 * v6) / v3 * v3) v5 v1 v2 v3 v4 v5 μ13 Q)) ∧ ((v3 = 0) → w_X4_layShares_107 P12 0 v5 v1 v2 v3 v4 v5 μ13 Q)))
def w_X4_layShares_58 (P12 : Int32 → Int32 → Int32 → Int32 → Int32 → WS → Prop) (P24 : Int32 → Int32 → Int32 → Int32 → Int32 → Int32 → Int32 → WS → Prop) (v1 : Int32) (v2 : Int32) (v3 : Int32) (v4 : Int32) (v5 : Int32) (v6 : Int32) (v7 : Int32) (μ : WS) (Q : WS → Prop) : Prop := P24 v1 v2 v3 v4 v5 v6 (v7 + 1) μ
def w_X4_layShares_24b (P12 : Int32 → Int32 → Int32 → Int32 → Int32 → WS → Prop) (P24 : Int32 → Int32 → Int32 → Int32 → Int32 → Int32 → Int32 → WS → Prop) (v1 : Int32) (v2 : Int32) (v3 : Int32) (v4 : Int32) (v5 : Int32) (v6 : Int32) (v7 : Int32) (μ : WS) (Q : WS → Prop) : Prop := (w_X4_width μ (fun r6 μ5 => ((r6 ≤ v7) → ((¬ v3 = 0) → (¬ v3 = 0 ∧ w_X4_layShares_85 P12 ((100 * v6) / v3) v5 v1 v2 v3 v4 v5 v6 μ5 Q)) ∧ ((v3 = 0) → w_X4_layShares_85 P12 0 v5 v1 v2 v3 v4 v5 v6 μ5 Q)) ∧ ((¬ r6 ≤ v7) → (w_X4_width μ5 (fun r10 μ9 => (¬ r10 = 0 ∧ ((¬ (v7 * v2) / r10 = v5) → w_X4_layShares_58 P12 P24 v1 v2 v3 v4 v5 v6 v7 μ9 Q) ∧ (((v7 * v2) / r10 = v5) → (∀ x12 : Int32, x12 = v6 + ((v1 >>> (v7 &&& 31)) &&& 1) → w_X4_layShares_58 P12 P24 v1 v2 v3 v4 v5 x12 v7 μ9 Q))))))))
def w_X4_layShares_24 (P12 : Int32 → Int32 → Int32 → Int32 → Int32 → WS → Prop) (v1 : Int32) (v2 : Int32) (v3 : Int32) (v4 : Int32) (v5 : Int32) (v6 : Int32) (v7 : Int32) (μ : WS) (Q : WS → Prop) : Prop := ∀ P24 : Int32 → Int32 → Int32 → Int32 → Int32 → Int32 → Int32 → WS → Prop, (∀ (v1 : Int32) (v2 : Int32) (v3 : Int32) (v4 : Int32) (v5 : Int32) (v6 : Int32) (v7 : Int32) (μ : WS), w_X4_layShares_24b P12 P24 v1 v2 v3 v4 v5 v6 v7 μ Q → P24 v1 v2 v3 v4 v5 v6 v7 μ) → P24 v1 v2 v3 v4 v5 v6 v7 μ
def w_X4_layShares_12b (P12 : Int32 → Int32 → Int32 → Int32 → Int32 → WS → Prop) (v1 : Int32) (v2 : Int32) (v3 : Int32) (v4 : Int32) (v5 : Int32) (μ : WS) (Q : WS → Prop) : Prop := ((v2 ≤ v5) → ((¬ v3 = 0) → w_X4_layShares_131 v2 v4 μ Q) ∧ ((v3 = 0) → Q μ)) ∧ ((¬ v2 ≤ v5) → w_X4_layShares_24 P12 v1 v2 v3 v4 v5 0 0 μ Q)
def w_X4_layShares_12 (v1 : Int32) (v2 : Int32) (v3 : Int32) (v4 : Int32) (v5 : Int32) (μ : WS) (Q : WS → Prop) : Prop := ∀ P12 : Int32 → Int32 → Int32 → Int32 → Int32 → WS → Prop, (∀ (v1 : Int32) (v2 : Int32) (v3 : Int32) (v4 : Int32) (v5 : Int32) (μ : WS), w_X4_layShares_12b  P12 v1 v2 v3 v4 v5 μ Q → P12 v1 v2 v3 v4 v5 μ) → P12 v1 v2 v3 v4 v5 μ
def w_X4_layShares (v1 : Int32) (v2 : Int32) (μ : WS) (Q : WS → Prop) : Prop := (w_X4_bitsOf v1 μ (fun r2 μ1 => w_X4_layShares_12 v1 v2 r2 100 0 μ1 Q))
abbrev rm_X4_layShares : Room := { frames := 1, cells := 0, slots := 0, locals := 22 }
theorem mf_X4_layShares : MFact yX4_layShares 2 rm_X4_layShares := ⟨by decide +kernel, rfl, rfl⟩
set_option maxHeartbeats 4000000 in
theorem met_X4_layShares (l : Launch) (D : va_G) (ac : Nat → ClassId) (ad : Nat → Nat) (Ex : Heap → Prop) (hLay : LayOk ad knM) (hEx : ExOk ad knM Ex) (v1 : Int32) (v2 : Int32) (μ : WS) (Q : WS → Prop) (h : w_X4_layShares v1 v2 μ Q) : CMet l yX4_layShares cX4_layShares 8 none rm_X4_layShares D ac ad knM Ex [.ref (ad 0), .int v1, .int v2] μ (qV Q) := by
  refine vv_met (lv := [(0, .ref (ad 0)), (1, .int v1), (2, .int v2)]) (by decide) hLay hEx (Nat.le_of_ble_eq_true rfl) rfl ⟨rfl, rfl⟩ (fun C hC hK hRm hLl hR hM => ?_)
  subst hLl
  have hRo : RoomOk (HPW D ac ad knM Ex (vS C)) (vR C) := HPW.room
  have L169 : ∀ (P131 : Int32 → Int32 → WS → Prop) (h131 : ∀ (v2 : Int32) (v4 : Int32) (μ : WS), P131 v2 v4 μ → VV C 8 (HPW D ac ad knM Ex (vS C)) (vQ C (QcW D ac ad knM (qV Q)) 0 0 (inLay ad knM)) (μ, ()) 131 [(0, .ref (ad 0)), (2, .int v2), (4, .int v4)] []) (P142 : Int32 → Int32 → Int32 → Int32 → WS → Prop) (h142 : ∀ (v2 : Int32) (v4 : Int32) (v5 : Int32) (v6 : Int32) (μ : WS), P142 v2 v4 v5 v6 μ → VV C 8 (HPW D ac ad knM Ex (vS C)) (vQ C (QcW D ac ad knM (qV Q)) 0 0 (inLay ad knM)) (μ, ()) 142 [(0, .ref (ad 0)), (2, .int v2), (4, .int v4), (5, .int v5), (6, .int v6)] []) (v2 : Int32) (v4 : Int32) (v5 : Int32) (v6 : Int32) (μ : WS), w_X4_layShares_169 P131 P142 v2 v4 v5 v6 μ Q → VV C 8 (HPW D ac ad knM Ex (vS C)) (vQ C (QcW D ac ad knM (qV Q)) 0 0 (inLay ad knM)) (μ, ()) 169 [(0, .ref (ad 0)), (2, .int v2), (4, .int v4), (5, .int v5), (6, .int v6)] [] := by
    intro P131 h131 P142 h142 v2 v4 v5 v6 μ h
    unfold w_X4_layShares_169 at h
    refine vv_iinc (pl := 4) (v := v6 + 1) (lv' := [(6, .int (v6 + 1)), (0, .ref (ad 0)), (2, .int v2), (4, .int v4), (5, .int v5)]) hC dX4_layShares_169 rfl rfl (by decide) rfl ?_
    refine vv_goto (tgt := 142) hC dX4_layShares_172 rfl ?_
    refine vv_lv [1, 2, 3, 4, 0] rfl ?_
    exact h142 _ _ _ _ _ h
  have L142 : ∀ (P131 : Int32 → Int32 → WS → Prop) (h131 : ∀ (v2 : Int32) (v4 : Int32) (μ : WS), P131 v2 v4 μ → VV C 8 (HPW D ac ad knM Ex (vS C)) (vQ C (QcW D ac ad knM (qV Q)) 0 0 (inLay ad knM)) (μ, ()) 131 [(0, .ref (ad 0)), (2, .int v2), (4, .int v4)] []) (v2 : Int32) (v4 : Int32) (v5 : Int32) (v6 : Int32) (μ : WS), w_X4_layShares_142 P131 v2 v4 v5 v6 μ Q → VV C 8 (HPW D ac ad knM Ex (vS C)) (vQ C (QcW D ac ad knM (qV Q)) 0 0 (inLay ad knM)) (μ, ()) 142 [(0, .ref (ad 0)), (2, .int v2), (4, .int v4), (5, .int v5), (6, .int v6)] [] := by
    intro P131 h131 v2 v4 v5 v6 μ h
    refine h (fun v2 v4 v5 v6 μ => VV C 8 (HPW D ac ad knM Ex (vS C)) (vQ C (QcW D ac ad knM (qV Q)) 0 0 (inLay ad knM)) (μ, ()) 142 [(0, .ref (ad 0)), (2, .int v2), (4, .int v4), (5, .int v5), (6, .int v6)] []) ?_
    clear h; intro v2 v4 v5 v6 μ h
    have h142 : ∀ (v2 : Int32) (v4 : Int32) (v5 : Int32) (v6 : Int32) (μ : WS), (fun v2 v4 v5 v6 (μ : WS) => VV C 8 (HPW D ac ad knM Ex (vS C)) (vQ C (QcW D ac ad knM (qV Q)) 0 0 (inLay ad knM)) (μ, ()) 142 [(0, .ref (ad 0)), (2, .int v2), (4, .int v4), (5, .int v5), (6, .int v6)] []) v2 v4 v5 v6 μ → VV C 8 (HPW D ac ad knM Ex (vS C)) (vQ C (QcW D ac ad knM (qV Q)) 0 0 (inLay ad knM)) (μ, ()) 142 [(0, .ref (ad 0)), (2, .int v2), (4, .int v4), (5, .int v5), (6, .int v6)] [] := fun _ _ _ _ _ h => h
    unfold w_X4_layShares_142b at h
    refine vv_iload hC dX4_layShares_142 4 rfl ?_
    refine vv_iload_n hC dX4_layShares_144 rfl 1 rfl ?_
    refine vv_icmp_ge (tgt := 175) hC dX4_layShares_145 rfl (fun c18 => ?_) (fun c18 => ?_)
    · replace h := h.1 c18
      refine vv_aload_n hC dX4_layShares_175 rfl 0 rfl ?_
      refine vv_getf hC hR hK fa4_86 0 lm_0 (fm_45 ad _ _ _) dX4_layShares_176 ?_
      refine vv_iload hC dX4_layShares_179 3 rfl ?_
      refine vv_dup2 hC dX4_layShares_181 rfl rfl ?_
      obtain ⟨hin, h⟩ := h
      refine vv_iald hC hR hK 24 lm_24 hin dX4_layShares_182 ?_
      refine vv_iconst hC dX4_layShares_183 ic_1 ?_
      refine vv_iadd hC dX4_layShares_184 ?_
      obtain ⟨hin, h⟩ := h
      refine vv_iast hC hR hK 24 lm_24 hin dX4_layShares_185 ?_
      refine vv_st (fun y e => ?_)
      obtain ⟨μ19, _⟩ := y
      have eμ19 := congrArg Prod.fst e
      clear e
      replace h := h μ19 eμ19
      refine vv_aload_n hC dX4_layShares_186 rfl 0 rfl ?_
      refine vv_getf hC hR hK fa4_89 0 lm_0 (fm_46 ad _ _ _) dX4_layShares_187 ?_
      refine vv_iload hC dX4_layShares_190 3 rfl ?_
      refine vv_iconst hC dX4_layShares_192 ic_m1 ?_
      obtain ⟨hin, h⟩ := h
      refine vv_iast hC hR hK 25 lm_25 hin dX4_layShares_193 ?_
      refine vv_st (fun y e => ?_)
      obtain ⟨μ20, _⟩ := y
      have eμ20 := congrArg Prod.fst e
      clear e
      replace h := h μ20 eμ20
      refine vv_iinc (pl := 2) (v := v4 + (-1)) (lv' := [(4, .int (v4 + (-1))), (0, .ref (ad 0)), (2, .int v2), (5, .int v5), (6, .int v6)]) hC dX4_layShares_194 rfl rfl (by decide) rfl ?_
      refine vv_goto (tgt := 131) hC dX4_layShares_197 rfl ?_
      refine vv_lv [1, 2, 0] rfl ?_
      exact h131 _ _ _ h
    · replace h := h.2 c18
      refine vv_aload_n hC dX4_layShares_148 rfl 0 rfl ?_
      refine vv_getf hC hR hK fa4_89 0 lm_0 (fm_46 ad _ _ _) dX4_layShares_149 ?_
      refine vv_iload hC dX4_layShares_152 4 rfl ?_
      obtain ⟨hin, h⟩ := h
      refine vv_iald hC hR hK 25 lm_25 hin dX4_layShares_154 ?_
      refine vv_aload_n hC dX4_layShares_155 rfl 0 rfl ?_
      refine vv_getf hC hR hK fa4_89 0 lm_0 (fm_46 ad _ _ _) dX4_layShares_156 ?_
      refine vv_iload hC dX4_layShares_159 3 rfl ?_
      obtain ⟨hin, h⟩ := h
      refine vv_iald hC hR hK 25 lm_25 hin dX4_layShares_161 ?_
      refine vv_icmp_le (tgt := 169) hC dX4_layShares_162 rfl (fun c21 => ?_) (fun c21 => ?_)
      · replace h := h.1 c21
        exact L169 _ h131 _ h142 _ _ _ _ _ h
      · replace h := h.2 c21
        refine vv_iload hC dX4_layShares_165 4 rfl ?_
        refine vv_istore (lv' := [(5, .int v6), (0, .ref (ad 0)), (2, .int v2), (4, .int v4), (6, .int v6)]) hC dX4_layShares_167 (by decide) rfl ?_
        refine vv_lv [1, 2, 3, 0, 4] rfl ?_
        exact L169 _ h131 _ h142 _ _ _ _ _ h
  have L131 : ∀ (v2 : Int32) (v4 : Int32) (μ : WS), w_X4_layShares_131  v2 v4 μ Q → VV C 8 (HPW D ac ad knM Ex (vS C)) (vQ C (QcW D ac ad knM (qV Q)) 0 0 (inLay ad knM)) (μ, ()) 131 [(0, .ref (ad 0)), (2, .int v2), (4, .int v4)] [] := by
    intro  v2 v4 μ h
    refine h (fun v2 v4 μ => VV C 8 (HPW D ac ad knM Ex (vS C)) (vQ C (QcW D ac ad knM (qV Q)) 0 0 (inLay ad knM)) (μ, ()) 131 [(0, .ref (ad 0)), (2, .int v2), (4, .int v4)] []) ?_
    clear h; intro v2 v4 μ h
    have h131 : ∀ (v2 : Int32) (v4 : Int32) (μ : WS), (fun v2 v4 (μ : WS) => VV C 8 (HPW D ac ad knM Ex (vS C)) (vQ C (QcW D ac ad knM (qV Q)) 0 0 (inLay ad knM)) (μ, ()) 131 [(0, .ref (ad 0)), (2, .int v2), (4, .int v4)] []) v2 v4 μ → VV C 8 (HPW D ac ad knM Ex (vS C)) (vQ C (QcW D ac ad knM (qV Q)) 0 0 (inLay ad knM)) (μ, ()) 131 [(0, .ref (ad 0)), (2, .int v2), (4, .int v4)] [] := fun _ _ _ h => h
    unfold w_X4_layShares_131b at h
    refine vv_iload hC dX4_layShares_131 2 rfl ?_
    refine vv_if_le (tgt := 200) hC dX4_layShares_133 rfl (fun c17 => ?_) (fun c17 => ?_)
    · replace h := h.1 c17
      exact vv_vret hC hM dX4_layShares_200 h
    · replace h := h.2 c17
      refine vv_iconst hC dX4_layShares_136 ic_0 ?_
      refine vv_istore (lv' := [(5, .int 0), (0, .ref (ad 0)), (2, .int v2), (4, .int v4)]) hC dX4_layShares_137 (by decide) rfl ?_
      refine vv_iconst hC dX4_layShares_139 ic_1 ?_
      refine vv_istore (lv' := [(6, .int 1), (5, .int 0), (0, .ref (ad 0)), (2, .int v2), (4, .int v4)]) hC dX4_layShares_140 (by decide) rfl ?_
      refine vv_lv [2, 3, 4, 1, 0] rfl ?_
      exact L142 _ h131 _ _ _ _ _ h
  have L107 : ∀ (P12 : Int32 → Int32 → Int32 → Int32 → Int32 → WS → Prop) (h12 : ∀ (v1 : Int32) (v2 : Int32) (v3 : Int32) (v4 : Int32) (v5 : Int32) (μ : WS), P12 v1 v2 v3 v4 v5 μ → VV C 8 (HPW D ac ad knM Ex (vS C)) (vQ C (QcW D ac ad knM (qV Q)) 0 0 (inLay ad knM)) (μ, ()) 12 [(0, .ref (ad 0)), (1, .int v1), (2, .int v2), (3, .int v3), (4, .int v4), (5, .int v5)] []) (s0 : Int32) (s1 : Int32) (v1 : Int32) (v2 : Int32) (v3 : Int32) (v4 : Int32) (v5 : Int32) (μ : WS), w_X4_layShares_107 P12 s0 s1 v1 v2 v3 v4 v5 μ Q → VV C 8 (HPW D ac ad knM Ex (vS C)) (vQ C (QcW D ac ad knM (qV Q)) 0 0 (inLay ad knM)) (μ, ()) 107 [(0, .ref (ad 0)), (1, .int v1), (2, .int v2), (3, .int v3), (4, .int v4), (5, .int v5)] [.int s0, .int s1, .ref (ad 25)] := by
    intro P12 h12 s0 s1 v1 v2 v3 v4 v5 μ h
    unfold w_X4_layShares_107 at h
    obtain ⟨hin, h⟩ := h
    refine vv_iast hC hR hK 25 lm_25 hin dX4_layShares_107 ?_
    refine vv_st (fun y e => ?_)
    obtain ⟨μ15, _⟩ := y
    have eμ15 := congrArg Prod.fst e
    clear e
    replace h := h μ15 eμ15
    refine vv_iload hC dX4_layShares_108 4 rfl ?_
    refine vv_aload_n hC dX4_layShares_110 rfl 0 rfl ?_
    refine vv_getf hC hR hK fa4_86 0 lm_0 (fm_45 ad _ _ _) dX4_layShares_111 ?_
    refine vv_iload hC dX4_layShares_114 5 rfl ?_
    obtain ⟨hin, h⟩ := h
    refine vv_iald hC hR hK 24 lm_24 hin dX4_layShares_116 ?_
    refine vv_isub hC dX4_layShares_117 ?_
    refine vv_topi (fun x16 ex16 => ?_)
    replace h := h x16 ex16
    refine vv_istore (lv' := [(4, .int x16), (0, .ref (ad 0)), (1, .int v1), (2, .int v2), (3, .int v3), (5, .int v5)]) hC dX4_layShares_118 (by decide) rfl ?_
    refine vv_iinc (pl := 5) (v := v5 + 1) (lv' := [(5, .int (v5 + 1)), (4, .int x16), (0, .ref (ad 0)), (1, .int v1), (2, .int v2), (3, .int v3)]) hC dX4_layShares_120 rfl rfl (by decide) rfl ?_
    refine vv_goto (tgt := 12) hC dX4_layShares_123 rfl ?_
    refine vv_lv [2, 3, 4, 5, 1, 0] rfl ?_
    exact h12 _ _ _ _ _ _ h
  have L85 : ∀ (P12 : Int32 → Int32 → Int32 → Int32 → Int32 → WS → Prop) (h12 : ∀ (v1 : Int32) (v2 : Int32) (v3 : Int32) (v4 : Int32) (v5 : Int32) (μ : WS), P12 v1 v2 v3 v4 v5 μ → VV C 8 (HPW D ac ad knM Ex (vS C)) (vQ C (QcW D ac ad knM (qV Q)) 0 0 (inLay ad knM)) (μ, ()) 12 [(0, .ref (ad 0)), (1, .int v1), (2, .int v2), (3, .int v3), (4, .int v4), (5, .int v5)] []) (s0 : Int32) (s1 : Int32) (v1 : Int32) (v2 : Int32) (v3 : Int32) (v4 : Int32) (v5 : Int32) (v6 : Int32) (μ : WS), w_X4_layShares_85 P12 s0 s1 v1 v2 v3 v4 v5 v6 μ Q → VV C 8 (HPW D ac ad knM Ex (vS C)) (vQ C (QcW D ac ad knM (qV Q)) 0 0 (inLay ad knM)) (μ, ()) 85 [(0, .ref (ad 0)), (1, .int v1), (2, .int v2), (3, .int v3), (4, .int v4), (5, .int v5), (6, .int v6)] [.int s0, .int s1, .ref (ad 24)] := by
    intro P12 h12 s0 s1 v1 v2 v3 v4 v5 v6 μ h
    unfold w_X4_layShares_85 at h
    obtain ⟨hin, h⟩ := h
    refine vv_iast hC hR hK 24 lm_24 hin dX4_layShares_85 ?_
    refine vv_st (fun y e => ?_)
    obtain ⟨μ13, _⟩ := y
    have eμ13 := congrArg Prod.fst e
    clear e
    replace h := h μ13 eμ13
    refine vv_aload_n hC dX4_layShares_86 rfl 0 rfl ?_
    refine vv_getf hC hR hK fa4_89 0 lm_0 (fm_46 ad _ _ _) dX4_layShares_87 ?_
    refine vv_iload hC dX4_layShares_90 5 rfl ?_
    refine vv_iload_n hC dX4_layShares_92 rfl 3 rfl ?_
    refine vv_if_ne (tgt := 100) hC dX4_layShares_93 rfl (fun c14 => ?_) (fun c14 => ?_)
    · replace h := h.1 c14
      refine vv_bipush hC dX4_layShares_100 bp_100 ?_
      refine vv_iload hC dX4_layShares_102 6 rfl ?_
      refine vv_imul hC dX4_layShares_104 ?_
      refine vv_iload_n hC dX4_layShares_105 rfl 3 rfl ?_
      obtain ⟨hne, h⟩ := h
      refine vv_irem hC dX4_layShares_106 hne ?_
      refine vv_lv [0, 1, 2, 3, 4, 5] rfl ?_
      exact L107 _ h12 _ _ _ _ _ _ _ _ h
    · replace h := h.2 c14
      refine vv_iconst hC dX4_layShares_96 ic_0 ?_
      refine vv_goto (tgt := 107) hC dX4_layShares_97 rfl ?_
      refine vv_lv [0, 1, 2, 3, 4, 5] rfl ?_
      exact L107 _ h12 _ _ _ _ _ _ _ _ h
  have L58 : ∀ (P12 : Int32 → Int32 → Int32 → Int32 → Int32 → WS → Prop) (h12 : ∀ (v1 : Int32) (v2 : Int32) (v3 : Int32) (v4 : Int32) (v5 : Int32) (μ : WS), P12 v1 v2 v3 v4 v5 μ → VV C 8 (HPW D ac ad knM Ex (vS C)) (vQ C (QcW D ac ad knM (qV Q)) 0 0 (inLay ad knM)) (μ, ()) 12 [(0, .ref (ad 0)), (1, .int v1), (2, .int v2), (3, .int v3), (4, .int v4), (5, .int v5)] []) (P24 : Int32 → Int32 → Int32 → Int32 → Int32 → Int32 → Int32 → WS → Prop) (h24 : ∀ (v1 : Int32) (v2 : Int32) (v3 : Int32) (v4 : Int32) (v5 : Int32) (v6 : Int32) (v7 : Int32) (μ : WS), P24 v1 v2 v3 v4 v5 v6 v7 μ → VV C 8 (HPW D ac ad knM Ex (vS C)) (vQ C (QcW D ac ad knM (qV Q)) 0 0 (inLay ad knM)) (μ, ()) 24 [(0, .ref (ad 0)), (1, .int v1), (2, .int v2), (3, .int v3), (4, .int v4), (5, .int v5), (6, .int v6), (7, .int v7)] []) (v1 : Int32) (v2 : Int32) (v3 : Int32) (v4 : Int32) (v5 : Int32) (v6 : Int32) (v7 : Int32) (μ : WS), w_X4_layShares_58 P12 P24 v1 v2 v3 v4 v5 v6 v7 μ Q → VV C 8 (HPW D ac ad knM Ex (vS C)) (vQ C (QcW D ac ad knM (qV Q)) 0 0 (inLay ad knM)) (μ, ()) 58 [(0, .ref (ad 0)), (1, .int v1), (2, .int v2), (3, .int v3), (4, .int v4), (5, .int v5), (6, .int v6), (7, .int v7)] [] := by
    intro P12 h12 P24 h24 v1 v2 v3 v4 v5 v6 v7 μ h
    unfold w_X4_layShares_58 at h
    refine vv_iinc (pl := 7) (v := v7 + 1) (lv' := [(7, .int (v7 + 1)), (0, .ref (ad 0)), (1, .int v1), (2, .int v2), (3, .int v3), (4, .int v4), (5, .int v5), (6, .int v6)]) hC dX4_layShares_58 rfl rfl (by decide) rfl ?_
    refine vv_goto (tgt := 24) hC dX4_layShares_61 rfl ?_
    refine vv_lv [1, 2, 3, 4, 5, 6, 7, 0] rfl ?_
    exact h24 _ _ _ _ _ _ _ _ h
  have L24 : ∀ (P12 : Int32 → Int32 → Int32 → Int32 → Int32 → WS → Prop) (h12 : ∀ (v1 : Int32) (v2 : Int32) (v3 : Int32) (v4 : Int32) (v5 : Int32) (μ : WS), P12 v1 v2 v3 v4 v5 μ → VV C 8 (HPW D ac ad knM Ex (vS C)) (vQ C (QcW D ac ad knM (qV Q)) 0 0 (inLay ad knM)) (μ, ()) 12 [(0, .ref (ad 0)), (1, .int v1), (2, .int v2), (3, .int v3), (4, .int v4), (5, .int v5)] []) (v1 : Int32) (v2 : Int32) (v3 : Int32) (v4 : Int32) (v5 : Int32) (v6 : Int32) (v7 : Int32) (μ : WS), w_X4_layShares_24 P12 v1 v2 v3 v4 v5 v6 v7 μ Q → VV C 8 (HPW D ac ad knM Ex (vS C)) (vQ C (QcW D ac ad knM (qV Q)) 0 0 (inLay ad knM)) (μ, ()) 24 [(0, .ref (ad 0)), (1, .int v1), (2, .int v2), (3, .int v3), (4, .int v4), (5, .int v5), (6, .int v6), (7, .int v7)] [] := by
    intro P12 h12 v1 v2 v3 v4 v5 v6 v7 μ h
    refine h (fun v1 v2 v3 v4 v5 v6 v7 μ => VV C 8 (HPW D ac ad knM Ex (vS C)) (vQ C (QcW D ac ad knM (qV Q)) 0 0 (inLay ad knM)) (μ, ()) 24 [(0, .ref (ad 0)), (1, .int v1), (2, .int v2), (3, .int v3), (4, .int v4), (5, .int v5), (6, .int v6), (7, .int v7)] []) ?_
    clear h; intro v1 v2 v3 v4 v5 v6 v7 μ h
    have h24 : ∀ (v1 : Int32) (v2 : Int32) (v3 : Int32) (v4 : Int32) (v5 : Int32) (v6 : Int32) (v7 : Int32) (μ : WS), (fun v1 v2 v3 v4 v5 v6 v7 (μ : WS) => VV C 8 (HPW D ac ad knM Ex (vS C)) (vQ C (QcW D ac ad knM (qV Q)) 0 0 (inLay ad knM)) (μ, ()) 24 [(0, .ref (ad 0)), (1, .int v1), (2, .int v2), (3, .int v3), (4, .int v4), (5, .int v5), (6, .int v6), (7, .int v7)] []) v1 v2 v3 v4 v5 v6 v7 μ → VV C 8 (HPW D ac ad knM Ex (vS C)) (vQ C (QcW D ac ad knM (qV Q)) 0 0 (inLay ad knM)) (μ, ()) 24 [(0, .ref (ad 0)), (1, .int v1), (2, .int v2), (3, .int v3), (4, .int v4), (5, .int v5), (6, .int v6), (7, .int v7)] [] := fun _ _ _ _ _ _ _ _ h => h
    unfold w_X4_layShares_24b at h
    refine vv_iload hC dX4_layShares_24 7 rfl ?_
    refine vv_aload_n hC dX4_layShares_26 rfl 0 rfl ?_
    refine vv_callVi hC hR hK hRo hRm [] [.int v7] (met_X4_width (vL C) D ac ad Ex hLay hEx  μ _ h) gw4_342 mf_X4_width rfl lm_0 rfl rfl rfl rfl dX4_layShares_27 (fun r6 μ5 h => ?_)
    refine vv_icmp_ge (tgt := 64) hC dX4_layShares_30 rfl (fun c7 => ?_) (fun c7 => ?_)
    · replace h := h.1 c7
      refine vv_aload_n hC dX4_layShares_64 rfl 0 rfl ?_
      refine vv_getf hC hR hK fa4_86 0 lm_0 (fm_45 ad _ _ _) dX4_layShares_65 ?_
      refine vv_iload hC dX4_layShares_68 5 rfl ?_
      refine vv_iload_n hC dX4_layShares_70 rfl 3 rfl ?_
      refine vv_if_ne (tgt := 78) hC dX4_layShares_71 rfl (fun c8 => ?_) (fun c8 => ?_)
      · replace h := h.1 c8
        refine vv_bipush hC dX4_layShares_78 bp_100 ?_
        refine vv_iload hC dX4_layShares_80 6 rfl ?_
        refine vv_imul hC dX4_layShares_82 ?_
        refine vv_iload_n hC dX4_layShares_83 rfl 3 rfl ?_
        obtain ⟨hne, h⟩ := h
        refine vv_idiv hC dX4_layShares_84 hne ?_
        refine vv_lv [0, 1, 2, 3, 4, 5, 6] rfl ?_
        exact L85 _ h12 _ _ _ _ _ _ _ _ _ h
      · replace h := h.2 c8
        refine vv_iconst hC dX4_layShares_74 ic_0 ?_
        refine vv_goto (tgt := 85) hC dX4_layShares_75 rfl ?_
        refine vv_lv [0, 1, 2, 3, 4, 5, 6] rfl ?_
        exact L85 _ h12 _ _ _ _ _ _ _ _ _ h
    · replace h := h.2 c7
      refine vv_iload hC dX4_layShares_33 7 rfl ?_
      refine vv_iload_n hC dX4_layShares_35 rfl 2 rfl ?_
      refine vv_imul hC dX4_layShares_36 ?_
      refine vv_aload_n hC dX4_layShares_37 rfl 0 rfl ?_
      refine vv_callVi hC hR hK hRo hRm [] [.int (v7 * v2)] (met_X4_width (vL C) D ac ad Ex hLay hEx  μ5 _ h) gw4_342 mf_X4_width rfl lm_0 rfl rfl rfl rfl dX4_layShares_38 (fun r10 μ9 h => ?_)
      obtain ⟨hne, h⟩ := h
      refine vv_idiv hC dX4_layShares_41 hne ?_
      refine vv_iload hC dX4_layShares_42 5 rfl ?_
      refine vv_icmp_ne (tgt := 58) hC dX4_layShares_44 rfl (fun c11 => ?_) (fun c11 => ?_)
      · replace h := h.1 c11
        exact L58 _ h12 _ h24 _ _ _ _ _ _ _ _ h
      · replace h := h.2 c11
        refine vv_iload hC dX4_layShares_47 6 rfl ?_
        refine vv_iload_n hC dX4_layShares_49 rfl 1 rfl ?_
        refine vv_iload hC dX4_layShares_50 7 rfl ?_
        refine vv_ishr hC dX4_layShares_52 ?_
        refine vv_iconst hC dX4_layShares_53 ic_1 ?_
        refine vv_iand hC dX4_layShares_54 ?_
        refine vv_iadd hC dX4_layShares_55 ?_
        refine vv_topi (fun x12 ex12 => ?_)
        replace h := h x12 ex12
        refine vv_istore (lv' := [(6, .int x12), (0, .ref (ad 0)), (1, .int v1), (2, .int v2), (3, .int v3), (4, .int v4), (5, .int v5), (7, .int v7)]) hC dX4_layShares_56 (by decide) rfl ?_
        refine vv_lv [1, 2, 3, 4, 5, 6, 0, 7] rfl ?_
        exact L58 _ h12 _ h24 _ _ _ _ _ _ _ _ h
  have L12 : ∀ (v1 : Int32) (v2 : Int32) (v3 : Int32) (v4 : Int32) (v5 : Int32) (μ : WS), w_X4_layShares_12  v1 v2 v3 v4 v5 μ Q → VV C 8 (HPW D ac ad knM Ex (vS C)) (vQ C (QcW D ac ad knM (qV Q)) 0 0 (inLay ad knM)) (μ, ()) 12 [(0, .ref (ad 0)), (1, .int v1), (2, .int v2), (3, .int v3), (4, .int v4), (5, .int v5)] [] := by
    intro  v1 v2 v3 v4 v5 μ h
    refine h (fun v1 v2 v3 v4 v5 μ => VV C 8 (HPW D ac ad knM Ex (vS C)) (vQ C (QcW D ac ad knM (qV Q)) 0 0 (inLay ad knM)) (μ, ()) 12 [(0, .ref (ad 0)), (1, .int v1), (2, .int v2), (3, .int v3), (4, .int v4), (5, .int v5)] []) ?_
    clear h; intro v1 v2 v3 v4 v5 μ h
    have h12 : ∀ (v1 : Int32) (v2 : Int32) (v3 : Int32) (v4 : Int32) (v5 : Int32) (μ : WS), (fun v1 v2 v3 v4 v5 (μ : WS) => VV C 8 (HPW D ac ad knM Ex (vS C)) (vQ C (QcW D ac ad knM (qV Q)) 0 0 (inLay ad knM)) (μ, ()) 12 [(0, .ref (ad 0)), (1, .int v1), (2, .int v2), (3, .int v3), (4, .int v4), (5, .int v5)] []) v1 v2 v3 v4 v5 μ → VV C 8 (HPW D ac ad knM Ex (vS C)) (vQ C (QcW D ac ad knM (qV Q)) 0 0 (inLay ad knM)) (μ, ()) 12 [(0, .ref (ad 0)), (1, .int v1), (2, .int v2), (3, .int v3), (4, .int v4), (5, .int v5)] [] := fun _ _ _ _ _ _ h => h
    unfold w_X4_layShares_12b at h
    refine vv_iload hC dX4_layShares_12 5 rfl ?_
    refine vv_iload_n hC dX4_layShares_14 rfl 2 rfl ?_
    refine vv_icmp_ge (tgt := 126) hC dX4_layShares_15 rfl (fun c3 => ?_) (fun c3 => ?_)
    · replace h := h.1 c3
      refine vv_iload_n hC dX4_layShares_126 rfl 3 rfl ?_
      refine vv_if_ne (tgt := 131) hC dX4_layShares_127 rfl (fun c4 => ?_) (fun c4 => ?_)
      · replace h := h.1 c4
        refine vv_lv [0, 2, 4] rfl ?_
        exact L131  _ _ _ h
      · replace h := h.2 c4
        exact vv_vret hC hM dX4_layShares_130 h
    · replace h := h.2 c3
      refine vv_iconst hC dX4_layShares_18 ic_0 ?_
      refine vv_istore (lv' := [(6, .int 0), (0, .ref (ad 0)), (1, .int v1), (2, .int v2), (3, .int v3), (4, .int v4), (5, .int v5)]) hC dX4_layShares_19 (by decide) rfl ?_
      refine vv_iconst hC dX4_layShares_21 ic_0 ?_
      refine vv_istore (lv' := [(7, .int 0), (6, .int 0), (0, .ref (ad 0)), (1, .int v1), (2, .int v2), (3, .int v3), (4, .int v4), (5, .int v5)]) hC dX4_layShares_22 (by decide) rfl ?_
      refine vv_lv [2, 3, 4, 5, 6, 7, 1, 0] rfl ?_
      exact L24 _ h12 _ _ _ _ _ _ _ _ h
  unfold w_X4_layShares at h
  refine vv_iload_n hC dX4_layShares_0 rfl 1 rfl ?_
  refine vv_callSi hC hR hK hRo hRm [.int v1] [] (met_X4_bitsOf (vL C) D ac ad Ex hLay hEx v1 μ _ h) gw4_352 mf_X4_bitsOf rfl rfl rfl dX4_layShares_1 (fun r2 μ1 h => ?_)
  refine vv_istore_n (lv' := [(3, .int r2), (0, .ref (ad 0)), (1, .int v1), (2, .int v2)]) hC dX4_layShares_4 rfl (by decide) rfl ?_
  refine vv_bipush hC dX4_layShares_5 bp_100 ?_
  refine vv_istore (lv' := [(4, .int 100), (3, .int r2), (0, .ref (ad 0)), (1, .int v1), (2, .int v2)]) hC dX4_layShares_7 (by decide) rfl ?_
  refine vv_iconst hC dX4_layShares_9 ic_0 ?_
  refine vv_istore (lv' := [(5, .int 0), (4, .int 100), (3, .int r2), (0, .ref (ad 0)), (1, .int v1), (2, .int v2)]) hC dX4_layShares_10 (by decide) rfl ?_
  refine vv_lv [3, 4, 5, 2, 1, 0] rfl ?_
  exact L12  _ _ _ _ _ _ h
def w_X4_share (v1 : Int32) (v2 : Int32) (v3 : Int32) (μ : WS) (Q : Int32 → WS → Prop) : Prop := (w_X4_isRow v1 μ (fun r2 μ1 => ((r2 = 0) → Q (-1) μ1) ∧ ((¬ r2 = 0) → (w_X4_isIn v2 1 4 μ1 (fun r5 μ4 => ((r5 = 0) → Q (-1) μ4) ∧ ((¬ r5 = 0) → (w_X4_isIn v3 0 (v2 - 1) μ4 (fun r8 μ7 => ((¬ r8 = 0) → (w_X4_layShares v1 v2 μ7 (fun μ10 => (vp_in v3 4 ∧ Q (μ10.1 24 v3.toNatClampNeg) μ10)))) ∧ ((r8 = 0) → Q (-1) μ7)))))))))
abbrev rm_X4_share : Room := { frames := 2, cells := 0, slots := 0, locals := 49 }
theorem mf_X4_share : MFact yX4_share 3 rm_X4_share := ⟨by decide +kernel, rfl, rfl⟩
set_option maxHeartbeats 4000000 in
theorem met_X4_share (l : Launch) (D : va_G) (ac : Nat → ClassId) (ad : Nat → Nat) (Ex : Heap → Prop) (hLay : LayOk ad knM) (hEx : ExOk ad knM Ex) (v1 : Int32) (v2 : Int32) (v3 : Int32) (μ : WS) (Q : Int32 → WS → Prop) (h : w_X4_share v1 v2 v3 μ Q) : CMet l yX4_share cX4_share 4 (some .int) rm_X4_share D ac ad knM Ex [.ref (ad 0), .int v1, .int v2, .int v3] μ (qI Q) := by
  refine vv_met (lv := [(0, .ref (ad 0)), (1, .int v1), (2, .int v2), (3, .int v3)]) (by decide) hLay hEx (Nat.le_of_ble_eq_true rfl) rfl ⟨rfl, rfl⟩ (fun C hC hK hRm hLl hR hM => ?_)
  subst hLl
  have hRo : RoomOk (HPW D ac ad knM Ex (vS C)) (vR C) := HPW.room
  unfold w_X4_share at h
  refine vv_aload_n hC dX4_share_0 rfl 0 rfl ?_
  refine vv_iload_n hC dX4_share_1 rfl 1 rfl ?_
  refine vv_callVi hC hR hK hRo hRm [.int v1] [] (met_X4_isRow (vL C) D ac ad Ex hLay hEx v1 μ _ h) gw4_358 mf_X4_isRow rfl lm_0 rfl rfl rfl rfl dX4_share_2 (fun r2 μ1 h => ?_)
  refine vv_if_eq (tgt := 28) hC dX4_share_5 rfl (fun c3 => ?_) (fun c3 => ?_)
  · replace h := h.1 c3
    refine vv_iconst hC dX4_share_28 ic_m1 ?_
    exact vv_iret hC hM dX4_share_29 h
  · replace h := h.2 c3
    refine vv_iload_n hC dX4_share_8 rfl 2 rfl ?_
    refine vv_iconst hC dX4_share_9 ic_1 ?_
    refine vv_iconst hC dX4_share_10 ic_4 ?_
    refine vv_callSi hC hR hK hRo hRm [.int v2, .int 1, .int 4] [] (met_X4_isIn (vL C) D ac ad Ex hLay hEx v2 1 4 μ1 _ h) gw4_345 mf_X4_isIn rfl rfl rfl dX4_share_11 (fun r5 μ4 h => ?_)
    refine vv_if_eq (tgt := 28) hC dX4_share_14 rfl (fun c6 => ?_) (fun c6 => ?_)
    · replace h := h.1 c6
      refine vv_iconst hC dX4_share_28 ic_m1 ?_
      exact vv_iret hC hM dX4_share_29 h
    · replace h := h.2 c6
      refine vv_iload_n hC dX4_share_17 rfl 3 rfl ?_
      refine vv_iconst hC dX4_share_18 ic_0 ?_
      refine vv_iload_n hC dX4_share_19 rfl 2 rfl ?_
      refine vv_iconst hC dX4_share_20 ic_1 ?_
      refine vv_isub hC dX4_share_21 ?_
      refine vv_callSi hC hR hK hRo hRm [.int v3, .int 0, .int (v2 - 1)] [] (met_X4_isIn (vL C) D ac ad Ex hLay hEx v3 0 (v2 - 1) μ4 _ h) gw4_345 mf_X4_isIn rfl rfl rfl dX4_share_22 (fun r8 μ7 h => ?_)
      refine vv_if_ne (tgt := 30) hC dX4_share_25 rfl (fun c9 => ?_) (fun c9 => ?_)
      · replace h := h.1 c9
        refine vv_aload_n hC dX4_share_30 rfl 0 rfl ?_
        refine vv_iload_n hC dX4_share_31 rfl 1 rfl ?_
        refine vv_iload_n hC dX4_share_32 rfl 2 rfl ?_
        refine vv_callVv hC hR hK hRo hRm [.int v1, .int v2] [] (met_X4_layShares (vL C) D ac ad Ex hLay hEx v1 v2 μ7 _ h) gw4_407 mf_X4_layShares rfl lm_0 rfl rfl rfl rfl dX4_share_33 (fun μ10 h => ?_)
        refine vv_aload_n hC dX4_share_36 rfl 0 rfl ?_
        refine vv_getf hC hR hK fa4_86 0 lm_0 (fm_45 ad _ _ _) dX4_share_37 ?_
        refine vv_iload_n hC dX4_share_40 rfl 3 rfl ?_
        obtain ⟨hin, h⟩ := h
        refine vv_iald hC hR hK 24 lm_24 hin dX4_share_41 ?_
        exact vv_iret hC hM dX4_share_42 h
      · replace h := h.2 c9
        refine vv_iconst hC dX4_share_28 ic_m1 ?_
        exact vv_iret hC hM dX4_share_29 h
def w_X4_lies (v1 : Int32) (μ : WS) (Q : Int32 → WS → Prop) : Prop := (w_X4_isIn v1 0 ((μ.1 0 48) - 1) μ (fun r2 μ1 => ((r2 = 0) → Q (-2) μ1) ∧ ((¬ r2 = 0) → (vp_in v1 12 ∧ Q (μ1.1 26 v1.toNatClampNeg) μ1))))
abbrev rm_X4_lies : Room := { frames := 1, cells := 0, slots := 0, locals := 22 }
theorem mf_X4_lies : MFact yX4_lies 1 rm_X4_lies := ⟨by decide +kernel, rfl, rfl⟩
set_option maxHeartbeats 4000000 in
theorem met_X4_lies (l : Launch) (D : va_G) (ac : Nat → ClassId) (ad : Nat → Nat) (Ex : Heap → Prop) (hLay : LayOk ad knM) (hEx : ExOk ad knM Ex) (v1 : Int32) (μ : WS) (Q : Int32 → WS → Prop) (h : w_X4_lies v1 μ Q) : CMet l yX4_lies cX4_lies 2 (some .int) rm_X4_lies D ac ad knM Ex [.ref (ad 0), .int v1] μ (qI Q) := by
  refine vv_met (lv := [(0, .ref (ad 0)), (1, .int v1)]) (by decide) hLay hEx (Nat.le_of_ble_eq_true rfl) rfl ⟨rfl, rfl⟩ (fun C hC hK hRm hLl hR hM => ?_)
  subst hLl
  have hRo : RoomOk (HPW D ac ad knM Ex (vS C)) (vR C) := HPW.room
  unfold w_X4_lies at h
  refine vv_iload_n hC dX4_lies_0 rfl 1 rfl ?_
  refine vv_iconst hC dX4_lies_1 ic_0 ?_
  refine vv_aload_n hC dX4_lies_2 rfl 0 rfl ?_
  refine vv_getf hC hR hK fa4_380 0 lm_0 (fm_48 ad _ _ _) dX4_lies_3 ?_
  refine vv_iconst hC dX4_lies_6 ic_1 ?_
  refine vv_isub hC dX4_lies_7 ?_
  refine vv_callSi hC hR hK hRo hRm [.int v1, .int 0, .int ((μ.1 0 48) - 1)] [] (met_X4_isIn (vL C) D ac ad Ex hLay hEx v1 0 ((μ.1 0 48) - 1) μ _ h) gw4_345 mf_X4_isIn rfl rfl rfl dX4_lies_8 (fun r2 μ1 h => ?_)
  refine vv_if_eq (tgt := 23) hC dX4_lies_11 rfl (fun c3 => ?_) (fun c3 => ?_)
  · replace h := h.1 c3
    refine vv_bipush hC dX4_lies_23 bp_m2 ?_
    exact vv_iret hC hM dX4_lies_25 h
  · replace h := h.2 c3
    refine vv_aload_n hC dX4_lies_14 rfl 0 rfl ?_
    refine vv_getf hC hR hK fa4_92 0 lm_0 (fm_47 ad _ _ _) dX4_lies_15 ?_
    refine vv_iload_n hC dX4_lies_18 rfl 1 rfl ?_
    obtain ⟨hin, h⟩ := h
    refine vv_iald hC hR hK 26 lm_26 hin dX4_lies_19 ?_
    refine vv_goto (tgt := 25) hC dX4_lies_20 rfl ?_
    exact vv_iret hC hM dX4_lies_25 h
def w_X4_doTell_52 (P2 : Int32 → Int32 → WS → Prop) (P16 : Int32 → Int32 → Int32 → WS → Prop) (v1 : Int32) (v2 : Int32) (v3 : Int32) (μ : WS) (Q : Int32 → WS → Prop) : Prop := P16 v1 v2 (v3 + 1) μ
def w_X4_doTell_16b (P2 : Int32 → Int32 → WS → Prop) (P16 : Int32 → Int32 → Int32 → WS → Prop) (v1 : Int32) (v2 : Int32) (v3 : Int32) (μ : WS) (Q : Int32 → WS → Prop) : Prop := ((v2 ≤ v3) → P2 v1 (v2 + 1) μ) ∧ ((¬ v2 ≤ v3) → (w_X4_rowOf v2 μ (fun r4 μ3 => (w_X4_rowOf v3 μ3 (fun r6 μ5 => ((r4 = r6) → w_X4_doTell_52 P2 P16 v1 v2 v3 μ5 Q) ∧ ((¬ r4 = r6) → (w_X4_rowOf v2 μ5 (fun r9 μ8 => (w_X4_rowOf v3 μ8 (fun r11 μ10 => ((¬ (r9 ^^^ r11) &&& v1 = 0) → w_X4_doTell_52 P2 P16 v1 v2 v3 μ10 Q) ∧ (((r9 ^^^ r11) &&& v1 = 0) → Q 0 μ10)))))))))))
def w_X4_doTell_16 (P2 : Int32 → Int32 → WS → Prop) (v1 : Int32) (v2 : Int32) (v3 : Int32) (μ : WS) (Q : Int32 → WS → Prop) : Prop := ∀ P16 : Int32 → Int32 → Int32 → WS → Prop, (∀ (v1 : Int32) (v2 : Int32) (v3 : Int32) (μ : WS), w_X4_doTell_16b P2 P16 v1 v2 v3 μ Q → P16 v1 v2 v3 μ) → P16 v1 v2 v3 μ
def w_X4_doTell_2b (P2 : Int32 → Int32 → WS → Prop) (v1 : Int32) (v2 : Int32) (μ : WS) (Q : Int32 → WS → Prop) : Prop := ((μ.1 21 216 ≤ v2) → Q 1 μ) ∧ ((¬ μ.1 21 216 ≤ v2) → w_X4_doTell_16 P2 v1 v2 0 μ Q)
def w_X4_doTell_2 (v1 : Int32) (v2 : Int32) (μ : WS) (Q : Int32 → WS → Prop) : Prop := ∀ P2 : Int32 → Int32 → WS → Prop, (∀ (v1 : Int32) (v2 : Int32) (μ : WS), w_X4_doTell_2b  P2 v1 v2 μ Q → P2 v1 v2 μ) → P2 v1 v2 μ
def w_X4_doTell (v1 : Int32) (μ : WS) (Q : Int32 → WS → Prop) : Prop := w_X4_doTell_2 v1 0 μ Q
abbrev rm_X4_doTell : Room := { frames := 1, cells := 0, slots := 0, locals := 21 }
theorem mf_X4_doTell : MFact yX4_doTell 1 rm_X4_doTell := ⟨by decide +kernel, rfl, rfl⟩
set_option maxHeartbeats 4000000 in
theorem met_X4_doTell (l : Launch) (D : va_G) (ac : Nat → ClassId) (ad : Nat → Nat) (Ex : Heap → Prop) (hLay : LayOk ad knM) (hEx : ExOk ad knM Ex) (v1 : Int32) (μ : WS) (Q : Int32 → WS → Prop) (h : w_X4_doTell v1 μ Q) : CMet l yX4_doTell cX4_doTell 4 (some .boolean) rm_X4_doTell D ac ad knM Ex [.ref (ad 0), .int v1] μ (qI Q) := by
  refine vv_met (lv := [(0, .ref (ad 0)), (1, .int v1)]) (by decide) hLay hEx (Nat.le_of_ble_eq_true rfl) rfl ⟨rfl, rfl⟩ (fun C hC hK hRm hLl hR hM => ?_)
  subst hLl
  have hRo : RoomOk (HPW D ac ad knM Ex (vS C)) (vR C) := HPW.room
  have L52 : ∀ (P2 : Int32 → Int32 → WS → Prop) (h2 : ∀ (v1 : Int32) (v2 : Int32) (μ : WS), P2 v1 v2 μ → VV C 4 (HPW D ac ad knM Ex (vS C)) (vQ C (QcW D ac ad knM (qI Q)) 0 0 (inLay ad knM)) (μ, ()) 2 [(0, .ref (ad 0)), (1, .int v1), (2, .int v2)] []) (P16 : Int32 → Int32 → Int32 → WS → Prop) (h16 : ∀ (v1 : Int32) (v2 : Int32) (v3 : Int32) (μ : WS), P16 v1 v2 v3 μ → VV C 4 (HPW D ac ad knM Ex (vS C)) (vQ C (QcW D ac ad knM (qI Q)) 0 0 (inLay ad knM)) (μ, ()) 16 [(0, .ref (ad 0)), (1, .int v1), (2, .int v2), (3, .int v3)] []) (v1 : Int32) (v2 : Int32) (v3 : Int32) (μ : WS), w_X4_doTell_52 P2 P16 v1 v2 v3 μ Q → VV C 4 (HPW D ac ad knM Ex (vS C)) (vQ C (QcW D ac ad knM (qI Q)) 0 0 (inLay ad knM)) (μ, ()) 52 [(0, .ref (ad 0)), (1, .int v1), (2, .int v2), (3, .int v3)] [] := by
    intro P2 h2 P16 h16 v1 v2 v3 μ h
    unfold w_X4_doTell_52 at h
    refine vv_iinc (pl := 3) (v := v3 + 1) (lv' := [(3, .int (v3 + 1)), (0, .ref (ad 0)), (1, .int v1), (2, .int v2)]) hC dX4_doTell_52 rfl rfl (by decide) rfl ?_
    refine vv_goto (tgt := 16) hC dX4_doTell_55 rfl ?_
    refine vv_lv [1, 2, 3, 0] rfl ?_
    exact h16 _ _ _ _ h
  have L16 : ∀ (P2 : Int32 → Int32 → WS → Prop) (h2 : ∀ (v1 : Int32) (v2 : Int32) (μ : WS), P2 v1 v2 μ → VV C 4 (HPW D ac ad knM Ex (vS C)) (vQ C (QcW D ac ad knM (qI Q)) 0 0 (inLay ad knM)) (μ, ()) 2 [(0, .ref (ad 0)), (1, .int v1), (2, .int v2)] []) (v1 : Int32) (v2 : Int32) (v3 : Int32) (μ : WS), w_X4_doTell_16 P2 v1 v2 v3 μ Q → VV C 4 (HPW D ac ad knM Ex (vS C)) (vQ C (QcW D ac ad knM (qI Q)) 0 0 (inLay ad knM)) (μ, ()) 16 [(0, .ref (ad 0)), (1, .int v1), (2, .int v2), (3, .int v3)] [] := by
    intro P2 h2 v1 v2 v3 μ h
    refine h (fun v1 v2 v3 μ => VV C 4 (HPW D ac ad knM Ex (vS C)) (vQ C (QcW D ac ad knM (qI Q)) 0 0 (inLay ad knM)) (μ, ()) 16 [(0, .ref (ad 0)), (1, .int v1), (2, .int v2), (3, .int v3)] []) ?_
    clear h; intro v1 v2 v3 μ h
    have h16 : ∀ (v1 : Int32) (v2 : Int32) (v3 : Int32) (μ : WS), (fun v1 v2 v3 (μ : WS) => VV C 4 (HPW D ac ad knM Ex (vS C)) (vQ C (QcW D ac ad knM (qI Q)) 0 0 (inLay ad knM)) (μ, ()) 16 [(0, .ref (ad 0)), (1, .int v1), (2, .int v2), (3, .int v3)] []) v1 v2 v3 μ → VV C 4 (HPW D ac ad knM Ex (vS C)) (vQ C (QcW D ac ad knM (qI Q)) 0 0 (inLay ad knM)) (μ, ()) 16 [(0, .ref (ad 0)), (1, .int v1), (2, .int v2), (3, .int v3)] [] := fun _ _ _ _ h => h
    unfold w_X4_doTell_16b at h
    refine vv_iload_n hC dX4_doTell_16 rfl 3 rfl ?_
    refine vv_iload_n hC dX4_doTell_17 rfl 2 rfl ?_
    refine vv_icmp_ge (tgt := 58) hC dX4_doTell_18 rfl (fun c2 => ?_) (fun c2 => ?_)
    · replace h := h.1 c2
      refine vv_iinc (pl := 2) (v := v2 + 1) (lv' := [(2, .int (v2 + 1)), (0, .ref (ad 0)), (1, .int v1), (3, .int v3)]) hC dX4_doTell_58 rfl rfl (by decide) rfl ?_
      refine vv_goto (tgt := 2) hC dX4_doTell_61 rfl ?_
      refine vv_lv [1, 2, 0] rfl ?_
      exact h2 _ _ _ h
    · replace h := h.2 c2
      refine vv_aload_n hC dX4_doTell_21 rfl 0 rfl ?_
      refine vv_iload_n hC dX4_doTell_22 rfl 2 rfl ?_
      refine vv_callVi hC hR hK hRo hRm [.int v2] [] (met_X4_rowOf (vL C) D ac ad Ex hLay hEx v2 μ _ h) gw4_392 mf_X4_rowOf rfl lm_0 rfl rfl rfl rfl dX4_doTell_23 (fun r4 μ3 h => ?_)
      refine vv_aload_n hC dX4_doTell_26 rfl 0 rfl ?_
      refine vv_iload_n hC dX4_doTell_27 rfl 3 rfl ?_
      refine vv_callVi hC hR hK hRo hRm [.int v3] [.int r4] (met_X4_rowOf (vL C) D ac ad Ex hLay hEx v3 μ3 _ h) gw4_392 mf_X4_rowOf rfl lm_0 rfl rfl rfl rfl dX4_doTell_28 (fun r6 μ5 h => ?_)
      refine vv_icmp_eq (tgt := 52) hC dX4_doTell_31 rfl (fun c7 => ?_) (fun c7 => ?_)
      · replace h := h.1 c7
        exact L52 _ h2 _ h16 _ _ _ _ h
      · replace h := h.2 c7
        refine vv_aload_n hC dX4_doTell_34 rfl 0 rfl ?_
        refine vv_iload_n hC dX4_doTell_35 rfl 2 rfl ?_
        refine vv_callVi hC hR hK hRo hRm [.int v2] [] (met_X4_rowOf (vL C) D ac ad Ex hLay hEx v2 μ5 _ h) gw4_392 mf_X4_rowOf rfl lm_0 rfl rfl rfl rfl dX4_doTell_36 (fun r9 μ8 h => ?_)
        refine vv_aload_n hC dX4_doTell_39 rfl 0 rfl ?_
        refine vv_iload_n hC dX4_doTell_40 rfl 3 rfl ?_
        refine vv_callVi hC hR hK hRo hRm [.int v3] [.int r9] (met_X4_rowOf (vL C) D ac ad Ex hLay hEx v3 μ8 _ h) gw4_392 mf_X4_rowOf rfl lm_0 rfl rfl rfl rfl dX4_doTell_41 (fun r11 μ10 h => ?_)
        refine vv_ixor hC dX4_doTell_44 ?_
        refine vv_iload_n hC dX4_doTell_45 rfl 1 rfl ?_
        refine vv_iand hC dX4_doTell_46 ?_
        refine vv_if_ne (tgt := 52) hC dX4_doTell_47 rfl (fun c12 => ?_) (fun c12 => ?_)
        · replace h := h.1 c12
          exact L52 _ h2 _ h16 _ _ _ _ h
        · replace h := h.2 c12
          refine vv_iconst hC dX4_doTell_50 ic_0 ?_
          exact vv_zret hC hM dX4_doTell_51 isB_0 h
  have L2 : ∀ (v1 : Int32) (v2 : Int32) (μ : WS), w_X4_doTell_2  v1 v2 μ Q → VV C 4 (HPW D ac ad knM Ex (vS C)) (vQ C (QcW D ac ad knM (qI Q)) 0 0 (inLay ad knM)) (μ, ()) 2 [(0, .ref (ad 0)), (1, .int v1), (2, .int v2)] [] := by
    intro  v1 v2 μ h
    refine h (fun v1 v2 μ => VV C 4 (HPW D ac ad knM Ex (vS C)) (vQ C (QcW D ac ad knM (qI Q)) 0 0 (inLay ad knM)) (μ, ()) 2 [(0, .ref (ad 0)), (1, .int v1), (2, .int v2)] []) ?_
    clear h; intro v1 v2 μ h
    have h2 : ∀ (v1 : Int32) (v2 : Int32) (μ : WS), (fun v1 v2 (μ : WS) => VV C 4 (HPW D ac ad knM Ex (vS C)) (vQ C (QcW D ac ad knM (qI Q)) 0 0 (inLay ad knM)) (μ, ()) 2 [(0, .ref (ad 0)), (1, .int v1), (2, .int v2)] []) v1 v2 μ → VV C 4 (HPW D ac ad knM Ex (vS C)) (vQ C (QcW D ac ad knM (qI Q)) 0 0 (inLay ad knM)) (μ, ()) 2 [(0, .ref (ad 0)), (1, .int v1), (2, .int v2)] [] := fun _ _ _ h => h
    unfold w_X4_doTell_2b at h
    refine vv_iload_n hC dX4_doTell_2 rfl 2 rfl ?_
    refine vv_aload_n hC dX4_doTell_3 rfl 0 rfl ?_
    refine vv_getf hC hR hK fa4_77 0 lm_0 (fm_40 ad _ _ _) dX4_doTell_4 ?_
    refine vv_sipush hC dX4_doTell_7 sp_216 ?_
    refine vv_iald hC hR hK 21 lm_21 vin_216_221 dX4_doTell_10 ?_
    refine vv_icmp_ge (tgt := 64) hC dX4_doTell_11 rfl (fun c1 => ?_) (fun c1 => ?_)
    · replace h := h.1 c1
      refine vv_iconst hC dX4_doTell_64 ic_1 ?_
      exact vv_zret hC hM dX4_doTell_65 isB_1 h
    · replace h := h.2 c1
      refine vv_iconst hC dX4_doTell_14 ic_0 ?_
      refine vv_istore_n (lv' := [(3, .int 0), (0, .ref (ad 0)), (1, .int v1), (2, .int v2)]) hC dX4_doTell_15 rfl (by decide) rfl ?_
      refine vv_lv [1, 2, 3, 0] rfl ?_
      exact L16 _ h2 _ _ _ _ h
  unfold w_X4_doTell at h
  refine vv_iconst hC dX4_doTell_0 ic_0 ?_
  refine vv_istore_n (lv' := [(2, .int 0), (0, .ref (ad 0)), (1, .int v1)]) hC dX4_doTell_1 rfl (by decide) rfl ?_
  refine vv_lv [1, 2, 0] rfl ?_
  exact L2  _ _ _ h
def w_X4_tell_91 (P52 : Int32 → Int32 → WS → Prop) (v1 : Int32) (v2 : Int32) (μ : WS) (Q : Int32 → WS → Prop) : Prop := P52 v1 (v2 + 1) μ
def w_X4_tell_52b (P52 : Int32 → Int32 → WS → Prop) (v1 : Int32) (v2 : Int32) (μ : WS) (Q : Int32 → WS → Prop) : Prop := (w_X4_width μ (fun r15 μ14 => ((r15 ≤ v2) → Q (μ14.1 0 48) μ14) ∧ ((¬ r15 ≤ v2) → ((¬ (v1 >>> (v2 &&& 31)) &&& 1 = 0) → (vp_in (μ14.1 0 48) 12 ∧ (∀ μ18 : WS, μ18 = wset μ14 26 (μ14.1 0 48).toNatClampNeg v2 → (∀ μ19 : WS, μ19 = wset μ18 0 48 ((μ18.1 0 48) + 1) → w_X4_tell_91 P52 v1 v2 μ19 Q)))) ∧ (((v1 >>> (v2 &&& 31)) &&& 1 = 0) → w_X4_tell_91 P52 v1 v2 μ14 Q))))
def w_X4_tell_52 (v1 : Int32) (v2 : Int32) (μ : WS) (Q : Int32 → WS → Prop) : Prop := ∀ P52 : Int32 → Int32 → WS → Prop, (∀ (v1 : Int32) (v2 : Int32) (μ : WS), w_X4_tell_52b  P52 v1 v2 μ Q → P52 v1 v2 μ) → P52 v1 v2 μ
def w_X4_tell_39 (P4 : Int32 → Int32 → WS → Prop) (v1 : Int32) (v2 : Int32) (μ : WS) (Q : Int32 → WS → Prop) : Prop := P4 v1 (v2 + 1) μ
def w_X4_tell_29 (P4 : Int32 → Int32 → WS → Prop) (v1 : Int32) (v2 : Int32) (μ : WS) (Q : Int32 → WS → Prop) : Prop := (w_X4_doTell v2 μ (fun r12 μ11 => ((r12 = 0) → w_X4_tell_39 P4 v1 v2 μ11 Q) ∧ ((¬ r12 = 0) → w_X4_tell_39 P4 v2 v2 μ11 Q)))
def w_X4_tell_4b (P4 : Int32 → Int32 → WS → Prop) (v1 : Int32) (v2 : Int32) (μ : WS) (Q : Int32 → WS → Prop) : Prop := (w_X4_width μ (fun r2 μ1 => ((1 <<< (r2 &&& 31) ≤ v2) → (∀ μ4 : WS, μ4 = wset μ1 0 48 0 → w_X4_tell_52 v1 0 μ4 Q)) ∧ ((¬ 1 <<< (r2 &&& 31) ≤ v2) → ((v1 < 0) → w_X4_tell_29 P4 v1 v2 μ1 Q) ∧ ((¬ v1 < 0) → (w_X4_bitsOf v2 μ1 (fun r7 μ6 => (w_X4_bitsOf v1 μ6 (fun r9 μ8 => ((r9 ≤ r7) → w_X4_tell_39 P4 v1 v2 μ8 Q) ∧ ((¬ r9 ≤ r7) → w_X4_tell_29 P4 v1 v2 μ8 Q)))))))))
def w_X4_tell_4 (v1 : Int32) (v2 : Int32) (μ : WS) (Q : Int32 → WS → Prop) : Prop := ∀ P4 : Int32 → Int32 → WS → Prop, (∀ (v1 : Int32) (v2 : Int32) (μ : WS), w_X4_tell_4b  P4 v1 v2 μ Q → P4 v1 v2 μ) → P4 v1 v2 μ
def w_X4_tell (μ : WS) (Q : Int32 → WS → Prop) : Prop := w_X4_tell_4 (-1) 0 μ Q
abbrev rm_X4_tell : Room := { frames := 2, cells := 0, slots := 0, locals := 44 }
theorem mf_X4_tell : MFact yX4_tell 0 rm_X4_tell := ⟨by decide +kernel, rfl, rfl⟩
set_option maxHeartbeats 4000000 in
theorem met_X4_tell (l : Launch) (D : va_G) (ac : Nat → ClassId) (ad : Nat → Nat) (Ex : Heap → Prop) (hLay : LayOk ad knM) (hEx : ExOk ad knM Ex) (μ : WS) (Q : Int32 → WS → Prop) (h : w_X4_tell  μ Q) : CMet l yX4_tell cX4_tell 3 (some .int) rm_X4_tell D ac ad knM Ex [.ref (ad 0)] μ (qI Q) := by
  refine vv_met (lv := [(0, .ref (ad 0))]) (by decide) hLay hEx (Nat.le_of_ble_eq_true rfl) rfl ⟨rfl, rfl⟩ (fun C hC hK hRm hLl hR hM => ?_)
  subst hLl
  have hRo : RoomOk (HPW D ac ad knM Ex (vS C)) (vR C) := HPW.room
  have L91 : ∀ (P52 : Int32 → Int32 → WS → Prop) (h52 : ∀ (v1 : Int32) (v2 : Int32) (μ : WS), P52 v1 v2 μ → VV C 3 (HPW D ac ad knM Ex (vS C)) (vQ C (QcW D ac ad knM (qI Q)) 0 0 (inLay ad knM)) (μ, ()) 52 [(0, .ref (ad 0)), (1, .int v1), (2, .int v2)] []) (v1 : Int32) (v2 : Int32) (μ : WS), w_X4_tell_91 P52 v1 v2 μ Q → VV C 3 (HPW D ac ad knM Ex (vS C)) (vQ C (QcW D ac ad knM (qI Q)) 0 0 (inLay ad knM)) (μ, ()) 91 [(0, .ref (ad 0)), (1, .int v1), (2, .int v2)] [] := by
    intro P52 h52 v1 v2 μ h
    unfold w_X4_tell_91 at h
    refine vv_iinc (pl := 2) (v := v2 + 1) (lv' := [(2, .int (v2 + 1)), (0, .ref (ad 0)), (1, .int v1)]) hC dX4_tell_91 rfl rfl (by decide) rfl ?_
    refine vv_goto (tgt := 52) hC dX4_tell_94 rfl ?_
    refine vv_lv [1, 2, 0] rfl ?_
    exact h52 _ _ _ h
  have L52 : ∀ (v1 : Int32) (v2 : Int32) (μ : WS), w_X4_tell_52  v1 v2 μ Q → VV C 3 (HPW D ac ad knM Ex (vS C)) (vQ C (QcW D ac ad knM (qI Q)) 0 0 (inLay ad knM)) (μ, ()) 52 [(0, .ref (ad 0)), (1, .int v1), (2, .int v2)] [] := by
    intro  v1 v2 μ h
    refine h (fun v1 v2 μ => VV C 3 (HPW D ac ad knM Ex (vS C)) (vQ C (QcW D ac ad knM (qI Q)) 0 0 (inLay ad knM)) (μ, ()) 52 [(0, .ref (ad 0)), (1, .int v1), (2, .int v2)] []) ?_
    clear h; intro v1 v2 μ h
    have h52 : ∀ (v1 : Int32) (v2 : Int32) (μ : WS), (fun v1 v2 (μ : WS) => VV C 3 (HPW D ac ad knM Ex (vS C)) (vQ C (QcW D ac ad knM (qI Q)) 0 0 (inLay ad knM)) (μ, ()) 52 [(0, .ref (ad 0)), (1, .int v1), (2, .int v2)] []) v1 v2 μ → VV C 3 (HPW D ac ad knM Ex (vS C)) (vQ C (QcW D ac ad knM (qI Q)) 0 0 (inLay ad knM)) (μ, ()) 52 [(0, .ref (ad 0)), (1, .int v1), (2, .int v2)] [] := fun _ _ _ h => h
    unfold w_X4_tell_52b at h
    refine vv_iload_n hC dX4_tell_52 rfl 2 rfl ?_
    refine vv_aload_n hC dX4_tell_53 rfl 0 rfl ?_
    refine vv_callVi hC hR hK hRo hRm [] [.int v2] (met_X4_width (vL C) D ac ad Ex hLay hEx  μ _ h) gw4_342 mf_X4_width rfl lm_0 rfl rfl rfl rfl dX4_tell_54 (fun r15 μ14 h => ?_)
    refine vv_icmp_ge (tgt := 97) hC dX4_tell_57 rfl (fun c16 => ?_) (fun c16 => ?_)
    · replace h := h.1 c16
      refine vv_aload_n hC dX4_tell_97 rfl 0 rfl ?_
      refine vv_getf hC hR hK fa4_380 0 lm_0 (fm_48 ad _ _ _) dX4_tell_98 ?_
      exact vv_iret hC hM dX4_tell_101 h
    · replace h := h.2 c16
      refine vv_iload_n hC dX4_tell_60 rfl 1 rfl ?_
      refine vv_iload_n hC dX4_tell_61 rfl 2 rfl ?_
      refine vv_ishr hC dX4_tell_62 ?_
      refine vv_iconst hC dX4_tell_63 ic_1 ?_
      refine vv_iand hC dX4_tell_64 ?_
      refine vv_if_ne (tgt := 71) hC dX4_tell_65 rfl (fun c17 => ?_) (fun c17 => ?_)
      · replace h := h.1 c17
        refine vv_aload_n hC dX4_tell_71 rfl 0 rfl ?_
        refine vv_getf hC hR hK fa4_92 0 lm_0 (fm_47 ad _ _ _) dX4_tell_72 ?_
        refine vv_aload_n hC dX4_tell_75 rfl 0 rfl ?_
        refine vv_getf hC hR hK fa4_380 0 lm_0 (fm_48 ad _ _ _) dX4_tell_76 ?_
        refine vv_iload_n hC dX4_tell_79 rfl 2 rfl ?_
        obtain ⟨hin, h⟩ := h
        refine vv_iast hC hR hK 26 lm_26 hin dX4_tell_80 ?_
        refine vv_st (fun y e => ?_)
        obtain ⟨μ18, _⟩ := y
        have eμ18 := congrArg Prod.fst e
        clear e
        replace h := h μ18 eμ18
        refine vv_aload_n hC dX4_tell_81 rfl 0 rfl ?_
        refine vv_dup hC dX4_tell_82 rfl ?_
        refine vv_getf hC hR hK fa4_380 0 lm_0 (fm_48 ad _ _ _) dX4_tell_83 ?_
        refine vv_iconst hC dX4_tell_86 ic_1 ?_
        refine vv_iadd hC dX4_tell_87 ?_
        refine vv_puti hC hR hK fa4_380 0 lm_0 fn_48 rfl rfl dX4_tell_88 ?_
        refine vv_st (fun y e => ?_)
        obtain ⟨μ19, _⟩ := y
        have eμ19 := congrArg Prod.fst e
        clear e
        replace h := h μ19 eμ19
        exact L91 _ h52 _ _ _ h
      · replace h := h.2 c17
        refine vv_goto (tgt := 91) hC dX4_tell_68 rfl ?_
        exact L91 _ h52 _ _ _ h
  have L39 : ∀ (P4 : Int32 → Int32 → WS → Prop) (h4 : ∀ (v1 : Int32) (v2 : Int32) (μ : WS), P4 v1 v2 μ → VV C 3 (HPW D ac ad knM Ex (vS C)) (vQ C (QcW D ac ad knM (qI Q)) 0 0 (inLay ad knM)) (μ, ()) 4 [(0, .ref (ad 0)), (1, .int v1), (2, .int v2)] []) (v1 : Int32) (v2 : Int32) (μ : WS), w_X4_tell_39 P4 v1 v2 μ Q → VV C 3 (HPW D ac ad knM Ex (vS C)) (vQ C (QcW D ac ad knM (qI Q)) 0 0 (inLay ad knM)) (μ, ()) 39 [(0, .ref (ad 0)), (1, .int v1), (2, .int v2)] [] := by
    intro P4 h4 v1 v2 μ h
    unfold w_X4_tell_39 at h
    refine vv_iinc (pl := 2) (v := v2 + 1) (lv' := [(2, .int (v2 + 1)), (0, .ref (ad 0)), (1, .int v1)]) hC dX4_tell_39 rfl rfl (by decide) rfl ?_
    refine vv_goto (tgt := 4) hC dX4_tell_42 rfl ?_
    refine vv_lv [1, 2, 0] rfl ?_
    exact h4 _ _ _ h
  have L29 : ∀ (P4 : Int32 → Int32 → WS → Prop) (h4 : ∀ (v1 : Int32) (v2 : Int32) (μ : WS), P4 v1 v2 μ → VV C 3 (HPW D ac ad knM Ex (vS C)) (vQ C (QcW D ac ad knM (qI Q)) 0 0 (inLay ad knM)) (μ, ()) 4 [(0, .ref (ad 0)), (1, .int v1), (2, .int v2)] []) (v1 : Int32) (v2 : Int32) (μ : WS), w_X4_tell_29 P4 v1 v2 μ Q → VV C 3 (HPW D ac ad knM Ex (vS C)) (vQ C (QcW D ac ad knM (qI Q)) 0 0 (inLay ad knM)) (μ, ()) 29 [(0, .ref (ad 0)), (1, .int v1), (2, .int v2)] [] := by
    intro P4 h4 v1 v2 μ h
    unfold w_X4_tell_29 at h
    refine vv_aload_n hC dX4_tell_29 rfl 0 rfl ?_
    refine vv_iload_n hC dX4_tell_30 rfl 2 rfl ?_
    refine vv_callVi hC hR hK hRo hRm [.int v2] [] (met_X4_doTell (vL C) D ac ad Ex hLay hEx v2 μ _ h) gw4_410 mf_X4_doTell rfl lm_0 rfl rfl rfl rfl dX4_tell_31 (fun r12 μ11 h => ?_)
    refine vv_if_eq (tgt := 39) hC dX4_tell_34 rfl (fun c13 => ?_) (fun c13 => ?_)
    · replace h := h.1 c13
      exact L39 _ h4 _ _ _ h
    · replace h := h.2 c13
      refine vv_iload_n hC dX4_tell_37 rfl 2 rfl ?_
      refine vv_istore_n (lv' := [(1, .int v2), (0, .ref (ad 0)), (2, .int v2)]) hC dX4_tell_38 rfl (by decide) rfl ?_
      refine vv_lv [1, 0, 2] rfl ?_
      exact L39 _ h4 _ _ _ h
  have L4 : ∀ (v1 : Int32) (v2 : Int32) (μ : WS), w_X4_tell_4  v1 v2 μ Q → VV C 3 (HPW D ac ad knM Ex (vS C)) (vQ C (QcW D ac ad knM (qI Q)) 0 0 (inLay ad knM)) (μ, ()) 4 [(0, .ref (ad 0)), (1, .int v1), (2, .int v2)] [] := by
    intro  v1 v2 μ h
    refine h (fun v1 v2 μ => VV C 3 (HPW D ac ad knM Ex (vS C)) (vQ C (QcW D ac ad knM (qI Q)) 0 0 (inLay ad knM)) (μ, ()) 4 [(0, .ref (ad 0)), (1, .int v1), (2, .int v2)] []) ?_
    clear h; intro v1 v2 μ h
    have h4 : ∀ (v1 : Int32) (v2 : Int32) (μ : WS), (fun v1 v2 (μ : WS) => VV C 3 (HPW D ac ad knM Ex (vS C)) (vQ C (QcW D ac ad knM (qI Q)) 0 0 (inLay ad knM)) (μ, ()) 4 [(0, .ref (ad 0)), (1, .int v1), (2, .int v2)] []) v1 v2 μ → VV C 3 (HPW D ac ad knM Ex (vS C)) (vQ C (QcW D ac ad knM (qI Q)) 0 0 (inLay ad knM)) (μ, ()) 4 [(0, .ref (ad 0)), (1, .int v1), (2, .int v2)] [] := fun _ _ _ h => h
    unfold w_X4_tell_4b at h
    refine vv_iload_n hC dX4_tell_4 rfl 2 rfl ?_
    refine vv_iconst hC dX4_tell_5 ic_1 ?_
    refine vv_aload_n hC dX4_tell_6 rfl 0 rfl ?_
    refine vv_callVi hC hR hK hRo hRm [] [.int 1, .int v2] (met_X4_width (vL C) D ac ad Ex hLay hEx  μ _ h) gw4_342 mf_X4_width rfl lm_0 rfl rfl rfl rfl dX4_tell_7 (fun r2 μ1 h => ?_)
    refine vv_ishl hC dX4_tell_10 ?_
    refine vv_icmp_ge (tgt := 45) hC dX4_tell_11 rfl (fun c3 => ?_) (fun c3 => ?_)
    · replace h := h.1 c3
      refine vv_aload_n hC dX4_tell_45 rfl 0 rfl ?_
      refine vv_iconst hC dX4_tell_46 ic_0 ?_
      refine vv_puti hC hR hK fa4_380 0 lm_0 fn_48 rfl rfl dX4_tell_47 ?_
      refine vv_st (fun y e => ?_)
      obtain ⟨μ4, _⟩ := y
      have eμ4 := congrArg Prod.fst e
      clear e
      replace h := h μ4 eμ4
      refine vv_iconst hC dX4_tell_50 ic_0 ?_
      refine vv_istore_n (lv' := [(2, .int 0), (0, .ref (ad 0)), (1, .int v1)]) hC dX4_tell_51 rfl (by decide) rfl ?_
      refine vv_lv [1, 2, 0] rfl ?_
      exact L52  _ _ _ h
    · replace h := h.2 c3
      refine vv_iload_n hC dX4_tell_14 rfl 1 rfl ?_
      refine vv_if_lt (tgt := 29) hC dX4_tell_15 rfl (fun c5 => ?_) (fun c5 => ?_)
      · replace h := h.1 c5
        exact L29 _ h4 _ _ _ h
      · replace h := h.2 c5
        refine vv_iload_n hC dX4_tell_18 rfl 2 rfl ?_
        refine vv_callSi hC hR hK hRo hRm [.int v2] [] (met_X4_bitsOf (vL C) D ac ad Ex hLay hEx v2 μ1 _ h) gw4_352 mf_X4_bitsOf rfl rfl rfl dX4_tell_19 (fun r7 μ6 h => ?_)
        refine vv_iload_n hC dX4_tell_22 rfl 1 rfl ?_
        refine vv_callSi hC hR hK hRo hRm [.int v1] [.int r7] (met_X4_bitsOf (vL C) D ac ad Ex hLay hEx v1 μ6 _ h) gw4_352 mf_X4_bitsOf rfl rfl rfl dX4_tell_23 (fun r9 μ8 h => ?_)
        refine vv_icmp_ge (tgt := 39) hC dX4_tell_26 rfl (fun c10 => ?_) (fun c10 => ?_)
        · replace h := h.1 c10
          exact L39 _ h4 _ _ _ h
        · replace h := h.2 c10
          exact L29 _ h4 _ _ _ h
  unfold w_X4_tell at h
  refine vv_iconst hC dX4_tell_0 ic_m1 ?_
  refine vv_istore_n (lv' := [(1, .int (-1)), (0, .ref (ad 0))]) hC dX4_tell_1 rfl (by decide) rfl ?_
  refine vv_iconst hC dX4_tell_2 ic_0 ?_
  refine vv_istore_n (lv' := [(2, .int 0), (1, .int (-1)), (0, .ref (ad 0))]) hC dX4_tell_3 rfl (by decide) rfl ?_
  refine vv_lv [2, 1, 0] rfl ?_
  exact L4  _ _ _ h
def w_X4_round_57b (P57 : Int32 → Int32 → Int32 → Int32 → Int32 → WS → Prop) (v2 : Int32) (v3 : Int32) (v4 : Int32) (v5 : Int32) (v6 : Int32) (μ : WS) (Q : Int32 → WS → Prop) : Prop := (vp_in v5 4096 ∧ ((0 ≤ μ.1 27 v5.toNatClampNeg) → ((¬ v4 = 0) → (vp_in v5 4096 ∧ Q (v6 - (μ.1 27 v5.toNatClampNeg)) μ)) ∧ ((v4 = 0) → Q v6 μ)) ∧ ((¬ 0 ≤ μ.1 27 v5.toNatClampNeg) → (vp_in v5 4096 ∧ (∀ μ13 : WS, μ13 = wset μ 27 v5.toNatClampNeg v6 → (w_X4_castOf v5 v2 v3 0 μ13 (fun r15 μ14 => P57 v2 v3 v4 r15 (v6 + 1) μ14))))))
def w_X4_round_57 (v2 : Int32) (v3 : Int32) (v4 : Int32) (v5 : Int32) (v6 : Int32) (μ : WS) (Q : Int32 → WS → Prop) : Prop := ∀ P57 : Int32 → Int32 → Int32 → Int32 → Int32 → WS → Prop, (∀ (v2 : Int32) (v3 : Int32) (v4 : Int32) (v5 : Int32) (v6 : Int32) (μ : WS), w_X4_round_57b  P57 v2 v3 v4 v5 v6 μ Q → P57 v2 v3 v4 v5 v6 μ) → P57 v2 v3 v4 v5 v6 μ
def w_X4_round_25b (P25 : Int32 → Int32 → Int32 → Int32 → Int32 → WS → Prop) (v1 : Int32) (v2 : Int32) (v3 : Int32) (v4 : Int32) (v5 : Int32) (μ : WS) (Q : Int32 → WS → Prop) : Prop := ((4096 ≤ v5) → (w_X4_rowOf v1 μ (fun r9 μ8 => w_X4_round_57 v2 v3 v4 r9 0 μ8 Q))) ∧ ((¬ 4096 ≤ v5) → (vp_in v5 4096 ∧ (∀ μ10 : WS, μ10 = wset μ 27 v5.toNatClampNeg (-1) → P25 v1 v2 v3 v4 (v5 + 1) μ10)))
def w_X4_round_25 (v1 : Int32) (v2 : Int32) (v3 : Int32) (v4 : Int32) (v5 : Int32) (μ : WS) (Q : Int32 → WS → Prop) : Prop := ∀ P25 : Int32 → Int32 → Int32 → Int32 → Int32 → WS → Prop, (∀ (v1 : Int32) (v2 : Int32) (v3 : Int32) (v4 : Int32) (v5 : Int32) (μ : WS), w_X4_round_25b  P25 v1 v2 v3 v4 v5 μ Q → P25 v1 v2 v3 v4 v5 μ) → P25 v1 v2 v3 v4 v5 μ
def w_X4_round (v1 : Int32) (v2 : Int32) (v3 : Int32) (v4 : Int32) (μ : WS) (Q : Int32 → WS → Prop) : Prop := (w_X4_canCast v1 v2 v3 μ (fun r2 μ1 => ((r2 = 0) → Q (-1) μ1) ∧ ((¬ r2 = 0) → (w_X4_isIn v4 0 1 μ1 (fun r5 μ4 => ((¬ r5 = 0) → w_X4_round_25 v1 v2 v3 v4 0 μ4 Q) ∧ ((r5 = 0) → Q (-1) μ4))))))
abbrev rm_X4_round : Room := { frames := 3, cells := 0, slots := 0, locals := 74 }
theorem mf_X4_round : MFact yX4_round 4 rm_X4_round := ⟨by decide +kernel, rfl, rfl⟩
set_option maxHeartbeats 4000000 in
theorem met_X4_round (l : Launch) (D : va_G) (ac : Nat → ClassId) (ad : Nat → Nat) (Ex : Heap → Prop) (hLay : LayOk ad knM) (hEx : ExOk ad knM Ex) (v1 : Int32) (v2 : Int32) (v3 : Int32) (v4 : Int32) (μ : WS) (Q : Int32 → WS → Prop) (h : w_X4_round v1 v2 v3 v4 μ Q) : CMet l yX4_round cX4_round 7 (some .int) rm_X4_round D ac ad knM Ex [.ref (ad 0), .int v1, .int v2, .int v3, .int v4] μ (qI Q) := by
  refine vv_met (lv := [(0, .ref (ad 0)), (1, .int v1), (2, .int v2), (3, .int v3), (4, .int v4)]) (by decide) hLay hEx (Nat.le_of_ble_eq_true rfl) rfl ⟨rfl, rfl⟩ (fun C hC hK hRm hLl hR hM => ?_)
  subst hLl
  have hRo : RoomOk (HPW D ac ad knM Ex (vS C)) (vR C) := HPW.room
  have L57 : ∀ (v2 : Int32) (v3 : Int32) (v4 : Int32) (v5 : Int32) (v6 : Int32) (μ : WS), w_X4_round_57  v2 v3 v4 v5 v6 μ Q → VV C 7 (HPW D ac ad knM Ex (vS C)) (vQ C (QcW D ac ad knM (qI Q)) 0 0 (inLay ad knM)) (μ, ()) 57 [(0, .ref (ad 0)), (2, .int v2), (3, .int v3), (4, .int v4), (5, .int v5), (6, .int v6)] [] := by
    intro  v2 v3 v4 v5 v6 μ h
    refine h (fun v2 v3 v4 v5 v6 μ => VV C 7 (HPW D ac ad knM Ex (vS C)) (vQ C (QcW D ac ad knM (qI Q)) 0 0 (inLay ad knM)) (μ, ()) 57 [(0, .ref (ad 0)), (2, .int v2), (3, .int v3), (4, .int v4), (5, .int v5), (6, .int v6)] []) ?_
    clear h; intro v2 v3 v4 v5 v6 μ h
    have h57 : ∀ (v2 : Int32) (v3 : Int32) (v4 : Int32) (v5 : Int32) (v6 : Int32) (μ : WS), (fun v2 v3 v4 v5 v6 (μ : WS) => VV C 7 (HPW D ac ad knM Ex (vS C)) (vQ C (QcW D ac ad knM (qI Q)) 0 0 (inLay ad knM)) (μ, ()) 57 [(0, .ref (ad 0)), (2, .int v2), (3, .int v3), (4, .int v4), (5, .int v5), (6, .int v6)] []) v2 v3 v4 v5 v6 μ → VV C 7 (HPW D ac ad knM Ex (vS C)) (vQ C (QcW D ac ad knM (qI Q)) 0 0 (inLay ad knM)) (μ, ()) 57 [(0, .ref (ad 0)), (2, .int v2), (3, .int v3), (4, .int v4), (5, .int v5), (6, .int v6)] [] := fun _ _ _ _ _ _ h => h
    unfold w_X4_round_57b at h
    refine vv_aload_n hC dX4_round_57 rfl 0 rfl ?_
    refine vv_getf hC hR hK fa4_95 0 lm_0 (fm_49 ad _ _ _) dX4_round_58 ?_
    refine vv_iload hC dX4_round_61 4 rfl ?_
    obtain ⟨hin, h⟩ := h
    refine vv_iald hC hR hK 27 lm_27 hin dX4_round_63 ?_
    refine vv_if_ge (tgt := 93) hC dX4_round_64 rfl (fun c11 => ?_) (fun c11 => ?_)
    · replace h := h.1 c11
      refine vv_iload hC dX4_round_93 3 rfl ?_
      refine vv_if_ne (tgt := 103) hC dX4_round_95 rfl (fun c12 => ?_) (fun c12 => ?_)
      · replace h := h.1 c12
        refine vv_iload hC dX4_round_103 5 rfl ?_
        refine vv_aload_n hC dX4_round_105 rfl 0 rfl ?_
        refine vv_getf hC hR hK fa4_95 0 lm_0 (fm_49 ad _ _ _) dX4_round_106 ?_
        refine vv_iload hC dX4_round_109 4 rfl ?_
        obtain ⟨hin, h⟩ := h
        refine vv_iald hC hR hK 27 lm_27 hin dX4_round_111 ?_
        refine vv_isub hC dX4_round_112 ?_
        exact vv_iret hC hM dX4_round_113 h
      · replace h := h.2 c12
        refine vv_iload hC dX4_round_98 5 rfl ?_
        refine vv_goto (tgt := 113) hC dX4_round_100 rfl ?_
        exact vv_iret hC hM dX4_round_113 h
    · replace h := h.2 c11
      refine vv_aload_n hC dX4_round_67 rfl 0 rfl ?_
      refine vv_getf hC hR hK fa4_95 0 lm_0 (fm_49 ad _ _ _) dX4_round_68 ?_
      refine vv_iload hC dX4_round_71 4 rfl ?_
      refine vv_iload hC dX4_round_73 5 rfl ?_
      obtain ⟨hin, h⟩ := h
      refine vv_iast hC hR hK 27 lm_27 hin dX4_round_75 ?_
      refine vv_st (fun y e => ?_)
      obtain ⟨μ13, _⟩ := y
      have eμ13 := congrArg Prod.fst e
      clear e
      replace h := h μ13 eμ13
      refine vv_iinc (pl := 5) (v := v6 + 1) (lv' := [(6, .int (v6 + 1)), (0, .ref (ad 0)), (2, .int v2), (3, .int v3), (4, .int v4), (5, .int v5)]) hC dX4_round_76 rfl rfl (by decide) rfl ?_
      refine vv_aload_n hC dX4_round_79 rfl 1 rfl ?_
      refine vv_iload hC dX4_round_80 5 rfl ?_
      refine vv_iload_n hC dX4_round_82 rfl 2 rfl ?_
      refine vv_iload_n hC dX4_round_83 rfl 3 rfl ?_
      refine vv_iconst hC dX4_round_84 ic_0 ?_
      refine vv_callVi hC hR hK hRo hRm [.int v5, .int v2, .int v3, .int 0] [] (met_X4_castOf (vL C) D ac ad Ex hLay hEx v5 v2 v3 0 μ13 _ h) gw4_367 mf_X4_castOf rfl lm_0 rfl rfl rfl rfl dX4_round_85 (fun r15 μ14 h => ?_)
      refine vv_istore (lv' := [(5, .int r15), (6, .int (v6 + 1)), (0, .ref (ad 0)), (2, .int v2), (3, .int v3), (4, .int v4)]) hC dX4_round_88 (by decide) rfl ?_
      refine vv_goto (tgt := 57) hC dX4_round_90 rfl ?_
      refine vv_lv [2, 3, 4, 5, 0, 1] rfl ?_
      exact h57 _ _ _ _ _ _ h
  have L25 : ∀ (v1 : Int32) (v2 : Int32) (v3 : Int32) (v4 : Int32) (v5 : Int32) (μ : WS), w_X4_round_25  v1 v2 v3 v4 v5 μ Q → VV C 7 (HPW D ac ad knM Ex (vS C)) (vQ C (QcW D ac ad knM (qI Q)) 0 0 (inLay ad knM)) (μ, ()) 25 [(0, .ref (ad 0)), (1, .int v1), (2, .int v2), (3, .int v3), (4, .int v4), (5, .int v5)] [] := by
    intro  v1 v2 v3 v4 v5 μ h
    refine h (fun v1 v2 v3 v4 v5 μ => VV C 7 (HPW D ac ad knM Ex (vS C)) (vQ C (QcW D ac ad knM (qI Q)) 0 0 (inLay ad knM)) (μ, ()) 25 [(0, .ref (ad 0)), (1, .int v1), (2, .int v2), (3, .int v3), (4, .int v4), (5, .int v5)] []) ?_
    clear h; intro v1 v2 v3 v4 v5 μ h
    have h25 : ∀ (v1 : Int32) (v2 : Int32) (v3 : Int32) (v4 : Int32) (v5 : Int32) (μ : WS), (fun v1 v2 v3 v4 v5 (μ : WS) => VV C 7 (HPW D ac ad knM Ex (vS C)) (vQ C (QcW D ac ad knM (qI Q)) 0 0 (inLay ad knM)) (μ, ()) 25 [(0, .ref (ad 0)), (1, .int v1), (2, .int v2), (3, .int v3), (4, .int v4), (5, .int v5)] []) v1 v2 v3 v4 v5 μ → VV C 7 (HPW D ac ad knM Ex (vS C)) (vQ C (QcW D ac ad knM (qI Q)) 0 0 (inLay ad knM)) (μ, ()) 25 [(0, .ref (ad 0)), (1, .int v1), (2, .int v2), (3, .int v3), (4, .int v4), (5, .int v5)] [] := fun _ _ _ _ _ _ h => h
    unfold w_X4_round_25b at h
    refine vv_iload hC dX4_round_25 5 rfl ?_
    refine vv_sipush hC dX4_round_27 sp_4096 ?_
    refine vv_icmp_ge (tgt := 47) hC dX4_round_30 rfl (fun c7 => ?_) (fun c7 => ?_)
    · replace h := h.1 c7
      refine vv_aload_n hC dX4_round_47 rfl 0 rfl ?_
      refine vv_iload_n hC dX4_round_48 rfl 1 rfl ?_
      refine vv_callVi hC hR hK hRo hRm [.int v1] [] (met_X4_rowOf (vL C) D ac ad Ex hLay hEx v1 μ _ h) gw4_392 mf_X4_rowOf rfl lm_0 rfl rfl rfl rfl dX4_round_49 (fun r9 μ8 h => ?_)
      refine vv_istore (lv' := [(5, .int r9), (0, .ref (ad 0)), (1, .int v1), (2, .int v2), (3, .int v3), (4, .int v4)]) hC dX4_round_52 (by decide) rfl ?_
      refine vv_iconst hC dX4_round_54 ic_0 ?_
      refine vv_istore (lv' := [(6, .int 0), (5, .int r9), (0, .ref (ad 0)), (1, .int v1), (2, .int v2), (3, .int v3), (4, .int v4)]) hC dX4_round_55 (by decide) rfl ?_
      refine vv_lv [2, 4, 5, 6, 1, 0] rfl ?_
      exact L57  _ _ _ _ _ _ h
    · replace h := h.2 c7
      refine vv_aload_n hC dX4_round_33 rfl 0 rfl ?_
      refine vv_getf hC hR hK fa4_95 0 lm_0 (fm_49 ad _ _ _) dX4_round_34 ?_
      refine vv_iload hC dX4_round_37 5 rfl ?_
      refine vv_iconst hC dX4_round_39 ic_m1 ?_
      obtain ⟨hin, h⟩ := h
      refine vv_iast hC hR hK 27 lm_27 hin dX4_round_40 ?_
      refine vv_st (fun y e => ?_)
      obtain ⟨μ10, _⟩ := y
      have eμ10 := congrArg Prod.fst e
      clear e
      replace h := h μ10 eμ10
      refine vv_iinc (pl := 5) (v := v5 + 1) (lv' := [(5, .int (v5 + 1)), (0, .ref (ad 0)), (1, .int v1), (2, .int v2), (3, .int v3), (4, .int v4)]) hC dX4_round_41 rfl rfl (by decide) rfl ?_
      refine vv_goto (tgt := 25) hC dX4_round_44 rfl ?_
      refine vv_lv [1, 2, 3, 4, 5, 0] rfl ?_
      exact h25 _ _ _ _ _ _ h
  unfold w_X4_round at h
  refine vv_aload_n hC dX4_round_0 rfl 0 rfl ?_
  refine vv_iload_n hC dX4_round_1 rfl 1 rfl ?_
  refine vv_iload_n hC dX4_round_2 rfl 2 rfl ?_
  refine vv_iload_n hC dX4_round_3 rfl 3 rfl ?_
  refine vv_callVi hC hR hK hRo hRm [.int v1, .int v2, .int v3] [] (met_X4_canCast (vL C) D ac ad Ex hLay hEx v1 v2 v3 μ _ h) gw4_398 mf_X4_canCast rfl lm_0 rfl rfl rfl rfl dX4_round_4 (fun r2 μ1 h => ?_)
  refine vv_if_eq (tgt := 20) hC dX4_round_7 rfl (fun c3 => ?_) (fun c3 => ?_)
  · replace h := h.1 c3
    refine vv_iconst hC dX4_round_20 ic_m1 ?_
    exact vv_iret hC hM dX4_round_21 h
  · replace h := h.2 c3
    refine vv_iload hC dX4_round_10 4 rfl ?_
    refine vv_iconst hC dX4_round_12 ic_0 ?_
    refine vv_iconst hC dX4_round_13 ic_1 ?_
    refine vv_callSi hC hR hK hRo hRm [.int v4, .int 0, .int 1] [] (met_X4_isIn (vL C) D ac ad Ex hLay hEx v4 0 1 μ1 _ h) gw4_345 mf_X4_isIn rfl rfl rfl dX4_round_14 (fun r5 μ4 h => ?_)
    refine vv_if_ne (tgt := 22) hC dX4_round_17 rfl (fun c6 => ?_) (fun c6 => ?_)
    · replace h := h.1 c6
      refine vv_iconst hC dX4_round_22 ic_0 ?_
      refine vv_istore (lv' := [(5, .int 0), (0, .ref (ad 0)), (1, .int v1), (2, .int v2), (3, .int v3), (4, .int v4)]) hC dX4_round_23 (by decide) rfl ?_
      refine vv_lv [1, 2, 3, 4, 5, 0] rfl ?_
      exact L25  _ _ _ _ _ _ h
    · replace h := h.2 c6
      refine vv_iconst hC dX4_round_20 ic_m1 ?_
      exact vv_iret hC hM dX4_round_21 h
def w_X4_steady_95 (P35 : Int32 → Int32 → Int32 → Int32 → Int32 → Int32 → WS → Prop) (v1 : Int32) (v2 : Int32) (v3 : Int32) (v4 : Int32) (v5 : Int32) (v6 : Int32) (μ : WS) (Q : Int32 → WS → Prop) : Prop := P35 v1 v2 v3 v4 v5 (v6 + 1) μ
def w_X4_steady_91 (P35 : Int32 → Int32 → Int32 → Int32 → Int32 → Int32 → WS → Prop) (v1 : Int32) (v2 : Int32) (v3 : Int32) (v4 : Int32) (v6 : Int32) (μ : WS) (Q : Int32 → WS → Prop) : Prop := w_X4_steady_95 P35 v1 v2 v3 v4 v6 v6 μ Q
def w_X4_steady_35b (P35 : Int32 → Int32 → Int32 → Int32 → Int32 → Int32 → WS → Prop) (v1 : Int32) (v2 : Int32) (v3 : Int32) (v4 : Int32) (v5 : Int32) (v6 : Int32) (μ : WS) (Q : Int32 → WS → Prop) : Prop := (w_X4_width μ (fun r11 μ10 => ((1 <<< (r11 &&& 31) ≤ v6) → ((¬ v3 = 0) → Q v5 μ10) ∧ ((v3 = 0) → Q v4 μ10)) ∧ ((¬ 1 <<< (r11 &&& 31) ≤ v6) → (w_X4_castOf v6 v1 v2 0 μ10 (fun r15 μ14 => (w_X4_castOf r15 v1 v2 0 μ14 (fun r17 μ16 => ((r17 = v6) → ((v5 < 0) → w_X4_steady_91 P35 v1 v2 v3 (v4 + 1) v6 μ16 Q) ∧ ((¬ v5 < 0) → (w_X4_bitsOf v6 μ16 (fun r21 μ20 => (w_X4_bitsOf v5 μ20 (fun r23 μ22 => ((r21 ≤ r23) → w_X4_steady_95 P35 v1 v2 v3 (v4 + 1) v5 v6 μ22 Q) ∧ ((¬ r21 ≤ r23) → w_X4_steady_91 P35 v1 v2 v3 (v4 + 1) v6 μ22 Q))))))) ∧ ((¬ r17 = v6) → w_X4_steady_95 P35 v1 v2 v3 v4 v5 v6 μ16 Q))))))))
def w_X4_steady_35 (v1 : Int32) (v2 : Int32) (v3 : Int32) (v4 : Int32) (v5 : Int32) (v6 : Int32) (μ : WS) (Q : Int32 → WS → Prop) : Prop := ∀ P35 : Int32 → Int32 → Int32 → Int32 → Int32 → Int32 → WS → Prop, (∀ (v1 : Int32) (v2 : Int32) (v3 : Int32) (v4 : Int32) (v5 : Int32) (v6 : Int32) (μ : WS), w_X4_steady_35b  P35 v1 v2 v3 v4 v5 v6 μ Q → P35 v1 v2 v3 v4 v5 v6 μ) → P35 v1 v2 v3 v4 v5 v6 μ
def w_X4_steady (v1 : Int32) (v2 : Int32) (v3 : Int32) (μ : WS) (Q : Int32 → WS → Prop) : Prop := (w_X4_isHand v1 μ (fun r2 μ1 => ((r2 = 0) → Q (-1) μ1) ∧ ((¬ r2 = 0) → (w_X4_isHeat v2 μ1 (fun r5 μ4 => ((r5 = 0) → Q (-1) μ4) ∧ ((¬ r5 = 0) → (w_X4_isIn v3 0 1 μ4 (fun r8 μ7 => ((¬ r8 = 0) → w_X4_steady_35 v1 v2 v3 0 (-1) 0 μ7 Q) ∧ ((r8 = 0) → Q (-1) μ7)))))))))
abbrev rm_X4_steady : Room := { frames := 3, cells := 0, slots := 0, locals := 74 }
theorem mf_X4_steady : MFact yX4_steady 3 rm_X4_steady := ⟨by decide +kernel, rfl, rfl⟩
set_option maxHeartbeats 4000000 in
theorem met_X4_steady (l : Launch) (D : va_G) (ac : Nat → ClassId) (ad : Nat → Nat) (Ex : Heap → Prop) (hLay : LayOk ad knM) (hEx : ExOk ad knM Ex) (v1 : Int32) (v2 : Int32) (v3 : Int32) (μ : WS) (Q : Int32 → WS → Prop) (h : w_X4_steady v1 v2 v3 μ Q) : CMet l yX4_steady cX4_steady 7 (some .int) rm_X4_steady D ac ad knM Ex [.ref (ad 0), .int v1, .int v2, .int v3] μ (qI Q) := by
  refine vv_met (lv := [(0, .ref (ad 0)), (1, .int v1), (2, .int v2), (3, .int v3)]) (by decide) hLay hEx (Nat.le_of_ble_eq_true rfl) rfl ⟨rfl, rfl⟩ (fun C hC hK hRm hLl hR hM => ?_)
  subst hLl
  have hRo : RoomOk (HPW D ac ad knM Ex (vS C)) (vR C) := HPW.room
  have L95 : ∀ (P35 : Int32 → Int32 → Int32 → Int32 → Int32 → Int32 → WS → Prop) (h35 : ∀ (v1 : Int32) (v2 : Int32) (v3 : Int32) (v4 : Int32) (v5 : Int32) (v6 : Int32) (μ : WS), P35 v1 v2 v3 v4 v5 v6 μ → VV C 7 (HPW D ac ad knM Ex (vS C)) (vQ C (QcW D ac ad knM (qI Q)) 0 0 (inLay ad knM)) (μ, ()) 35 [(0, .ref (ad 0)), (1, .int v1), (2, .int v2), (3, .int v3), (4, .int v4), (5, .int v5), (6, .int v6)] []) (v1 : Int32) (v2 : Int32) (v3 : Int32) (v4 : Int32) (v5 : Int32) (v6 : Int32) (μ : WS), w_X4_steady_95 P35 v1 v2 v3 v4 v5 v6 μ Q → VV C 7 (HPW D ac ad knM Ex (vS C)) (vQ C (QcW D ac ad knM (qI Q)) 0 0 (inLay ad knM)) (μ, ()) 95 [(0, .ref (ad 0)), (1, .int v1), (2, .int v2), (3, .int v3), (4, .int v4), (5, .int v5), (6, .int v6)] [] := by
    intro P35 h35 v1 v2 v3 v4 v5 v6 μ h
    unfold w_X4_steady_95 at h
    refine vv_iinc (pl := 6) (v := v6 + 1) (lv' := [(6, .int (v6 + 1)), (0, .ref (ad 0)), (1, .int v1), (2, .int v2), (3, .int v3), (4, .int v4), (5, .int v5)]) hC dX4_steady_95 rfl rfl (by decide) rfl ?_
    refine vv_goto (tgt := 35) hC dX4_steady_98 rfl ?_
    refine vv_lv [1, 2, 3, 4, 5, 6, 0] rfl ?_
    exact h35 _ _ _ _ _ _ _ h
  have L91 : ∀ (P35 : Int32 → Int32 → Int32 → Int32 → Int32 → Int32 → WS → Prop) (h35 : ∀ (v1 : Int32) (v2 : Int32) (v3 : Int32) (v4 : Int32) (v5 : Int32) (v6 : Int32) (μ : WS), P35 v1 v2 v3 v4 v5 v6 μ → VV C 7 (HPW D ac ad knM Ex (vS C)) (vQ C (QcW D ac ad knM (qI Q)) 0 0 (inLay ad knM)) (μ, ()) 35 [(0, .ref (ad 0)), (1, .int v1), (2, .int v2), (3, .int v3), (4, .int v4), (5, .int v5), (6, .int v6)] []) (v1 : Int32) (v2 : Int32) (v3 : Int32) (v4 : Int32) (v6 : Int32) (μ : WS), w_X4_steady_91 P35 v1 v2 v3 v4 v6 μ Q → VV C 7 (HPW D ac ad knM Ex (vS C)) (vQ C (QcW D ac ad knM (qI Q)) 0 0 (inLay ad knM)) (μ, ()) 91 [(0, .ref (ad 0)), (1, .int v1), (2, .int v2), (3, .int v3), (4, .int v4), (6, .int v6)] [] := by
    intro P35 h35 v1 v2 v3 v4 v6 μ h
    unfold w_X4_steady_91 at h
    refine vv_iload hC dX4_steady_91 5 rfl ?_
    refine vv_istore (lv' := [(5, .int v6), (0, .ref (ad 0)), (1, .int v1), (2, .int v2), (3, .int v3), (4, .int v4), (6, .int v6)]) hC dX4_steady_93 (by decide) rfl ?_
    refine vv_lv [1, 2, 3, 4, 5, 0, 6] rfl ?_
    exact L95 _ h35 _ _ _ _ _ _ _ h
  have L35 : ∀ (v1 : Int32) (v2 : Int32) (v3 : Int32) (v4 : Int32) (v5 : Int32) (v6 : Int32) (μ : WS), w_X4_steady_35  v1 v2 v3 v4 v5 v6 μ Q → VV C 7 (HPW D ac ad knM Ex (vS C)) (vQ C (QcW D ac ad knM (qI Q)) 0 0 (inLay ad knM)) (μ, ()) 35 [(0, .ref (ad 0)), (1, .int v1), (2, .int v2), (3, .int v3), (4, .int v4), (5, .int v5), (6, .int v6)] [] := by
    intro  v1 v2 v3 v4 v5 v6 μ h
    refine h (fun v1 v2 v3 v4 v5 v6 μ => VV C 7 (HPW D ac ad knM Ex (vS C)) (vQ C (QcW D ac ad knM (qI Q)) 0 0 (inLay ad knM)) (μ, ()) 35 [(0, .ref (ad 0)), (1, .int v1), (2, .int v2), (3, .int v3), (4, .int v4), (5, .int v5), (6, .int v6)] []) ?_
    clear h; intro v1 v2 v3 v4 v5 v6 μ h
    have h35 : ∀ (v1 : Int32) (v2 : Int32) (v3 : Int32) (v4 : Int32) (v5 : Int32) (v6 : Int32) (μ : WS), (fun v1 v2 v3 v4 v5 v6 (μ : WS) => VV C 7 (HPW D ac ad knM Ex (vS C)) (vQ C (QcW D ac ad knM (qI Q)) 0 0 (inLay ad knM)) (μ, ()) 35 [(0, .ref (ad 0)), (1, .int v1), (2, .int v2), (3, .int v3), (4, .int v4), (5, .int v5), (6, .int v6)] []) v1 v2 v3 v4 v5 v6 μ → VV C 7 (HPW D ac ad knM Ex (vS C)) (vQ C (QcW D ac ad knM (qI Q)) 0 0 (inLay ad knM)) (μ, ()) 35 [(0, .ref (ad 0)), (1, .int v1), (2, .int v2), (3, .int v3), (4, .int v4), (5, .int v5), (6, .int v6)] [] := fun _ _ _ _ _ _ _ h => h
    unfold w_X4_steady_35b at h
    refine vv_iload hC dX4_steady_35 6 rfl ?_
    refine vv_iconst hC dX4_steady_37 ic_1 ?_
    refine vv_aload_n hC dX4_steady_38 rfl 0 rfl ?_
    refine vv_callVi hC hR hK hRo hRm [] [.int 1, .int v6] (met_X4_width (vL C) D ac ad Ex hLay hEx  μ _ h) gw4_342 mf_X4_width rfl lm_0 rfl rfl rfl rfl dX4_steady_39 (fun r11 μ10 h => ?_)
    refine vv_ishl hC dX4_steady_42 ?_
    refine vv_icmp_ge (tgt := 101) hC dX4_steady_43 rfl (fun c12 => ?_) (fun c12 => ?_)
    · replace h := h.1 c12
      refine vv_iload_n hC dX4_steady_101 rfl 3 rfl ?_
      refine vv_if_ne (tgt := 110) hC dX4_steady_102 rfl (fun c13 => ?_) (fun c13 => ?_)
      · replace h := h.1 c13
        refine vv_iload hC dX4_steady_110 5 rfl ?_
        exact vv_iret hC hM dX4_steady_112 h
      · replace h := h.2 c13
        refine vv_iload hC dX4_steady_105 4 rfl ?_
        refine vv_goto (tgt := 112) hC dX4_steady_107 rfl ?_
        exact vv_iret hC hM dX4_steady_112 h
    · replace h := h.2 c12
      refine vv_aload_n hC dX4_steady_46 rfl 0 rfl ?_
      refine vv_aload_n hC dX4_steady_47 rfl 0 rfl ?_
      refine vv_iload hC dX4_steady_48 6 rfl ?_
      refine vv_iload_n hC dX4_steady_50 rfl 1 rfl ?_
      refine vv_iload_n hC dX4_steady_51 rfl 2 rfl ?_
      refine vv_iconst hC dX4_steady_52 ic_0 ?_
      refine vv_callVi hC hR hK hRo hRm [.int v6, .int v1, .int v2, .int 0] [.ref (ad 0)] (met_X4_castOf (vL C) D ac ad Ex hLay hEx v6 v1 v2 0 μ10 _ h) gw4_367 mf_X4_castOf rfl lm_0 rfl rfl rfl rfl dX4_steady_53 (fun r15 μ14 h => ?_)
      refine vv_iload_n hC dX4_steady_56 rfl 1 rfl ?_
      refine vv_iload_n hC dX4_steady_57 rfl 2 rfl ?_
      refine vv_iconst hC dX4_steady_58 ic_0 ?_
      refine vv_callVi hC hR hK hRo hRm [.int r15, .int v1, .int v2, .int 0] [] (met_X4_castOf (vL C) D ac ad Ex hLay hEx r15 v1 v2 0 μ14 _ h) gw4_367 mf_X4_castOf rfl lm_0 rfl rfl rfl rfl dX4_steady_59 (fun r17 μ16 h => ?_)
      refine vv_iload hC dX4_steady_62 6 rfl ?_
      refine vv_icmp_eq (tgt := 70) hC dX4_steady_64 rfl (fun c18 => ?_) (fun c18 => ?_)
      · replace h := h.1 c18
        refine vv_iinc (pl := 4) (v := v4 + 1) (lv' := [(4, .int (v4 + 1)), (0, .ref (ad 0)), (1, .int v1), (2, .int v2), (3, .int v3), (5, .int v5), (6, .int v6)]) hC dX4_steady_70 rfl rfl (by decide) rfl ?_
        refine vv_iload hC dX4_steady_73 5 rfl ?_
        refine vv_if_lt (tgt := 91) hC dX4_steady_75 rfl (fun c19 => ?_) (fun c19 => ?_)
        · replace h := h.1 c19
          refine vv_lv [1, 2, 3, 4, 0, 6] rfl ?_
          exact L91 _ h35 _ _ _ _ _ _ h
        · replace h := h.2 c19
          refine vv_iload hC dX4_steady_78 6 rfl ?_
          refine vv_callSi hC hR hK hRo hRm [.int v6] [] (met_X4_bitsOf (vL C) D ac ad Ex hLay hEx v6 μ16 _ h) gw4_352 mf_X4_bitsOf rfl rfl rfl dX4_steady_80 (fun r21 μ20 h => ?_)
          refine vv_iload hC dX4_steady_83 5 rfl ?_
          refine vv_callSi hC hR hK hRo hRm [.int v5] [.int r21] (met_X4_bitsOf (vL C) D ac ad Ex hLay hEx v5 μ20 _ h) gw4_352 mf_X4_bitsOf rfl rfl rfl dX4_steady_85 (fun r23 μ22 h => ?_)
          refine vv_icmp_le (tgt := 95) hC dX4_steady_88 rfl (fun c24 => ?_) (fun c24 => ?_)
          · replace h := h.1 c24
            refine vv_lv [1, 2, 3, 4, 0, 5, 6] rfl ?_
            exact L95 _ h35 _ _ _ _ _ _ _ h
          · replace h := h.2 c24
            refine vv_lv [1, 2, 3, 4, 0, 6] rfl ?_
            exact L91 _ h35 _ _ _ _ _ _ h
      · replace h := h.2 c18
        refine vv_goto (tgt := 95) hC dX4_steady_67 rfl ?_
        exact L95 _ h35 _ _ _ _ _ _ _ h
  unfold w_X4_steady at h
  refine vv_aload_n hC dX4_steady_0 rfl 0 rfl ?_
  refine vv_iload_n hC dX4_steady_1 rfl 1 rfl ?_
  refine vv_callVi hC hR hK hRo hRm [.int v1] [] (met_X4_isHand (vL C) D ac ad Ex hLay hEx v1 μ _ h) gw4_361 mf_X4_isHand rfl lm_0 rfl rfl rfl rfl dX4_steady_2 (fun r2 μ1 h => ?_)
  refine vv_if_eq (tgt := 24) hC dX4_steady_5 rfl (fun c3 => ?_) (fun c3 => ?_)
  · replace h := h.1 c3
    refine vv_iconst hC dX4_steady_24 ic_m1 ?_
    exact vv_iret hC hM dX4_steady_25 h
  · replace h := h.2 c3
    refine vv_iload_n hC dX4_steady_8 rfl 2 rfl ?_
    refine vv_callSi hC hR hK hRo hRm [.int v2] [] (met_X4_isHeat (vL C) D ac ad Ex hLay hEx v2 μ1 _ h) gw4_364 mf_X4_isHeat rfl rfl rfl dX4_steady_9 (fun r5 μ4 h => ?_)
    refine vv_if_eq (tgt := 24) hC dX4_steady_12 rfl (fun c6 => ?_) (fun c6 => ?_)
    · replace h := h.1 c6
      refine vv_iconst hC dX4_steady_24 ic_m1 ?_
      exact vv_iret hC hM dX4_steady_25 h
    · replace h := h.2 c6
      refine vv_iload_n hC dX4_steady_15 rfl 3 rfl ?_
      refine vv_iconst hC dX4_steady_16 ic_0 ?_
      refine vv_iconst hC dX4_steady_17 ic_1 ?_
      refine vv_callSi hC hR hK hRo hRm [.int v3, .int 0, .int 1] [] (met_X4_isIn (vL C) D ac ad Ex hLay hEx v3 0 1 μ4 _ h) gw4_345 mf_X4_isIn rfl rfl rfl dX4_steady_18 (fun r8 μ7 h => ?_)
      refine vv_if_ne (tgt := 26) hC dX4_steady_21 rfl (fun c9 => ?_) (fun c9 => ?_)
      · replace h := h.1 c9
        refine vv_iconst hC dX4_steady_26 ic_0 ?_
        refine vv_istore (lv' := [(4, .int 0), (0, .ref (ad 0)), (1, .int v1), (2, .int v2), (3, .int v3)]) hC dX4_steady_27 (by decide) rfl ?_
        refine vv_iconst hC dX4_steady_29 ic_m1 ?_
        refine vv_istore (lv' := [(5, .int (-1)), (4, .int 0), (0, .ref (ad 0)), (1, .int v1), (2, .int v2), (3, .int v3)]) hC dX4_steady_30 (by decide) rfl ?_
        refine vv_iconst hC dX4_steady_32 ic_0 ?_
        refine vv_istore (lv' := [(6, .int 0), (5, .int (-1)), (4, .int 0), (0, .ref (ad 0)), (1, .int v1), (2, .int v2), (3, .int v3)]) hC dX4_steady_33 (by decide) rfl ?_
        refine vv_lv [3, 4, 5, 6, 2, 1, 0] rfl ?_
        exact L35  _ _ _ _ _ _ _ h
      · replace h := h.2 c9
        refine vv_iconst hC dX4_steady_24 ic_m1 ?_
        exact vv_iret hC hM dX4_steady_25 h
def w_X4_against_70 (P31 : Int32 → Int32 → Int32 → Int32 → Int32 → WS → Prop) (s0 : Int32) (s1 : Int32) (v1 : Int32) (v2 : Int32) (v3 : Int32) (v5 : Int32) (μ : WS) (Q : Int32 → WS → Prop) : Prop := (∀ x18 : Int32, x18 = s1 + s0 → P31 v1 v2 v3 x18 (v5 + 1) μ)
def w_X4_against_31b (P31 : Int32 → Int32 → Int32 → Int32 → Int32 → WS → Prop) (v1 : Int32) (v2 : Int32) (v3 : Int32) (v4 : Int32) (v5 : Int32) (μ : WS) (Q : Int32 → WS → Prop) : Prop := (w_X4_width μ (fun r11 μ10 => ((1 <<< (r11 &&& 31) ≤ v5) → Q v4 μ10) ∧ ((¬ 1 <<< (r11 &&& 31) ≤ v5) → (w_X4_castOf v5 v1 v3 0 μ10 (fun r14 μ13 => (w_X4_castOf v5 v2 v3 0 μ13 (fun r16 μ15 => ((r14 = r16) → w_X4_against_70 P31 0 v4 v1 v2 v3 v5 μ15 Q) ∧ ((¬ r14 = r16) → w_X4_against_70 P31 1 v4 v1 v2 v3 v5 μ15 Q))))))))
def w_X4_against_31 (v1 : Int32) (v2 : Int32) (v3 : Int32) (v4 : Int32) (v5 : Int32) (μ : WS) (Q : Int32 → WS → Prop) : Prop := ∀ P31 : Int32 → Int32 → Int32 → Int32 → Int32 → WS → Prop, (∀ (v1 : Int32) (v2 : Int32) (v3 : Int32) (v4 : Int32) (v5 : Int32) (μ : WS), w_X4_against_31b  P31 v1 v2 v3 v4 v5 μ Q → P31 v1 v2 v3 v4 v5 μ) → P31 v1 v2 v3 v4 v5 μ
def w_X4_against (v1 : Int32) (v2 : Int32) (v3 : Int32) (μ : WS) (Q : Int32 → WS → Prop) : Prop := (w_X4_isHand v1 μ (fun r2 μ1 => ((r2 = 0) → Q (-1) μ1) ∧ ((¬ r2 = 0) → (w_X4_isHand v2 μ1 (fun r5 μ4 => ((r5 = 0) → Q (-1) μ4) ∧ ((¬ r5 = 0) → (w_X4_isHeat v3 μ4 (fun r8 μ7 => ((¬ r8 = 0) → w_X4_against_31 v1 v2 v3 0 0 μ7 Q) ∧ ((r8 = 0) → Q (-1) μ7)))))))))
abbrev rm_X4_against : Room := { frames := 3, cells := 0, slots := 0, locals := 74 }
theorem mf_X4_against : MFact yX4_against 3 rm_X4_against := ⟨by decide +kernel, rfl, rfl⟩
set_option maxHeartbeats 4000000 in
theorem met_X4_against (l : Launch) (D : va_G) (ac : Nat → ClassId) (ad : Nat → Nat) (Ex : Heap → Prop) (hLay : LayOk ad knM) (hEx : ExOk ad knM Ex) (v1 : Int32) (v2 : Int32) (v3 : Int32) (μ : WS) (Q : Int32 → WS → Prop) (h : w_X4_against v1 v2 v3 μ Q) : CMet l yX4_against cX4_against 6 (some .int) rm_X4_against D ac ad knM Ex [.ref (ad 0), .int v1, .int v2, .int v3] μ (qI Q) := by
  refine vv_met (lv := [(0, .ref (ad 0)), (1, .int v1), (2, .int v2), (3, .int v3)]) (by decide) hLay hEx (Nat.le_of_ble_eq_true rfl) rfl ⟨rfl, rfl⟩ (fun C hC hK hRm hLl hR hM => ?_)
  subst hLl
  have hRo : RoomOk (HPW D ac ad knM Ex (vS C)) (vR C) := HPW.room
  have L70 : ∀ (P31 : Int32 → Int32 → Int32 → Int32 → Int32 → WS → Prop) (h31 : ∀ (v1 : Int32) (v2 : Int32) (v3 : Int32) (v4 : Int32) (v5 : Int32) (μ : WS), P31 v1 v2 v3 v4 v5 μ → VV C 6 (HPW D ac ad knM Ex (vS C)) (vQ C (QcW D ac ad knM (qI Q)) 0 0 (inLay ad knM)) (μ, ()) 31 [(0, .ref (ad 0)), (1, .int v1), (2, .int v2), (3, .int v3), (4, .int v4), (5, .int v5)] []) (s0 : Int32) (s1 : Int32) (v1 : Int32) (v2 : Int32) (v3 : Int32) (v5 : Int32) (μ : WS), w_X4_against_70 P31 s0 s1 v1 v2 v3 v5 μ Q → VV C 6 (HPW D ac ad knM Ex (vS C)) (vQ C (QcW D ac ad knM (qI Q)) 0 0 (inLay ad knM)) (μ, ()) 70 [(0, .ref (ad 0)), (1, .int v1), (2, .int v2), (3, .int v3), (5, .int v5)] [.int s0, .int s1] := by
    intro P31 h31 s0 s1 v1 v2 v3 v5 μ h
    unfold w_X4_against_70 at h
    refine vv_iadd hC dX4_against_70 ?_
    refine vv_topi (fun x18 ex18 => ?_)
    replace h := h x18 ex18
    refine vv_istore (lv' := [(4, .int x18), (0, .ref (ad 0)), (1, .int v1), (2, .int v2), (3, .int v3), (5, .int v5)]) hC dX4_against_71 (by decide) rfl ?_
    refine vv_iinc (pl := 5) (v := v5 + 1) (lv' := [(5, .int (v5 + 1)), (4, .int x18), (0, .ref (ad 0)), (1, .int v1), (2, .int v2), (3, .int v3)]) hC dX4_against_73 rfl rfl (by decide) rfl ?_
    refine vv_goto (tgt := 31) hC dX4_against_76 rfl ?_
    refine vv_lv [2, 3, 4, 5, 1, 0] rfl ?_
    exact h31 _ _ _ _ _ _ h
  have L31 : ∀ (v1 : Int32) (v2 : Int32) (v3 : Int32) (v4 : Int32) (v5 : Int32) (μ : WS), w_X4_against_31  v1 v2 v3 v4 v5 μ Q → VV C 6 (HPW D ac ad knM Ex (vS C)) (vQ C (QcW D ac ad knM (qI Q)) 0 0 (inLay ad knM)) (μ, ()) 31 [(0, .ref (ad 0)), (1, .int v1), (2, .int v2), (3, .int v3), (4, .int v4), (5, .int v5)] [] := by
    intro  v1 v2 v3 v4 v5 μ h
    refine h (fun v1 v2 v3 v4 v5 μ => VV C 6 (HPW D ac ad knM Ex (vS C)) (vQ C (QcW D ac ad knM (qI Q)) 0 0 (inLay ad knM)) (μ, ()) 31 [(0, .ref (ad 0)), (1, .int v1), (2, .int v2), (3, .int v3), (4, .int v4), (5, .int v5)] []) ?_
    clear h; intro v1 v2 v3 v4 v5 μ h
    have h31 : ∀ (v1 : Int32) (v2 : Int32) (v3 : Int32) (v4 : Int32) (v5 : Int32) (μ : WS), (fun v1 v2 v3 v4 v5 (μ : WS) => VV C 6 (HPW D ac ad knM Ex (vS C)) (vQ C (QcW D ac ad knM (qI Q)) 0 0 (inLay ad knM)) (μ, ()) 31 [(0, .ref (ad 0)), (1, .int v1), (2, .int v2), (3, .int v3), (4, .int v4), (5, .int v5)] []) v1 v2 v3 v4 v5 μ → VV C 6 (HPW D ac ad knM Ex (vS C)) (vQ C (QcW D ac ad knM (qI Q)) 0 0 (inLay ad knM)) (μ, ()) 31 [(0, .ref (ad 0)), (1, .int v1), (2, .int v2), (3, .int v3), (4, .int v4), (5, .int v5)] [] := fun _ _ _ _ _ _ h => h
    unfold w_X4_against_31b at h
    refine vv_iload hC dX4_against_31 5 rfl ?_
    refine vv_iconst hC dX4_against_33 ic_1 ?_
    refine vv_aload_n hC dX4_against_34 rfl 0 rfl ?_
    refine vv_callVi hC hR hK hRo hRm [] [.int 1, .int v5] (met_X4_width (vL C) D ac ad Ex hLay hEx  μ _ h) gw4_342 mf_X4_width rfl lm_0 rfl rfl rfl rfl dX4_against_35 (fun r11 μ10 h => ?_)
    refine vv_ishl hC dX4_against_38 ?_
    refine vv_icmp_ge (tgt := 79) hC dX4_against_39 rfl (fun c12 => ?_) (fun c12 => ?_)
    · replace h := h.1 c12
      refine vv_iload hC dX4_against_79 4 rfl ?_
      exact vv_iret hC hM dX4_against_81 h
    · replace h := h.2 c12
      refine vv_iload hC dX4_against_42 4 rfl ?_
      refine vv_aload_n hC dX4_against_44 rfl 0 rfl ?_
      refine vv_iload hC dX4_against_45 5 rfl ?_
      refine vv_iload_n hC dX4_against_47 rfl 1 rfl ?_
      refine vv_iload_n hC dX4_against_48 rfl 3 rfl ?_
      refine vv_iconst hC dX4_against_49 ic_0 ?_
      refine vv_callVi hC hR hK hRo hRm [.int v5, .int v1, .int v3, .int 0] [.int v4] (met_X4_castOf (vL C) D ac ad Ex hLay hEx v5 v1 v3 0 μ10 _ h) gw4_367 mf_X4_castOf rfl lm_0 rfl rfl rfl rfl dX4_against_50 (fun r14 μ13 h => ?_)
      refine vv_aload_n hC dX4_against_53 rfl 0 rfl ?_
      refine vv_iload hC dX4_against_54 5 rfl ?_
      refine vv_iload_n hC dX4_against_56 rfl 2 rfl ?_
      refine vv_iload_n hC dX4_against_57 rfl 3 rfl ?_
      refine vv_iconst hC dX4_against_58 ic_0 ?_
      refine vv_callVi hC hR hK hRo hRm [.int v5, .int v2, .int v3, .int 0] [.int r14, .int v4] (met_X4_castOf (vL C) D ac ad Ex hLay hEx v5 v2 v3 0 μ13 _ h) gw4_367 mf_X4_castOf rfl lm_0 rfl rfl rfl rfl dX4_against_59 (fun r16 μ15 h => ?_)
      refine vv_icmp_eq (tgt := 69) hC dX4_against_62 rfl (fun c17 => ?_) (fun c17 => ?_)
      · replace h := h.1 c17
        refine vv_iconst hC dX4_against_69 ic_0 ?_
        refine vv_lv [0, 1, 2, 3, 5] rfl ?_
        exact L70 _ h31 _ _ _ _ _ _ _ h
      · replace h := h.2 c17
        refine vv_iconst hC dX4_against_65 ic_1 ?_
        refine vv_goto (tgt := 70) hC dX4_against_66 rfl ?_
        refine vv_lv [0, 1, 2, 3, 5] rfl ?_
        exact L70 _ h31 _ _ _ _ _ _ _ h
  unfold w_X4_against at h
  refine vv_aload_n hC dX4_against_0 rfl 0 rfl ?_
  refine vv_iload_n hC dX4_against_1 rfl 1 rfl ?_
  refine vv_callVi hC hR hK hRo hRm [.int v1] [] (met_X4_isHand (vL C) D ac ad Ex hLay hEx v1 μ _ h) gw4_361 mf_X4_isHand rfl lm_0 rfl rfl rfl rfl dX4_against_2 (fun r2 μ1 h => ?_)
  refine vv_if_eq (tgt := 23) hC dX4_against_5 rfl (fun c3 => ?_) (fun c3 => ?_)
  · replace h := h.1 c3
    refine vv_iconst hC dX4_against_23 ic_m1 ?_
    exact vv_iret hC hM dX4_against_24 h
  · replace h := h.2 c3
    refine vv_aload_n hC dX4_against_8 rfl 0 rfl ?_
    refine vv_iload_n hC dX4_against_9 rfl 2 rfl ?_
    refine vv_callVi hC hR hK hRo hRm [.int v2] [] (met_X4_isHand (vL C) D ac ad Ex hLay hEx v2 μ1 _ h) gw4_361 mf_X4_isHand rfl lm_0 rfl rfl rfl rfl dX4_against_10 (fun r5 μ4 h => ?_)
    refine vv_if_eq (tgt := 23) hC dX4_against_13 rfl (fun c6 => ?_) (fun c6 => ?_)
    · replace h := h.1 c6
      refine vv_iconst hC dX4_against_23 ic_m1 ?_
      exact vv_iret hC hM dX4_against_24 h
    · replace h := h.2 c6
      refine vv_iload_n hC dX4_against_16 rfl 3 rfl ?_
      refine vv_callSi hC hR hK hRo hRm [.int v3] [] (met_X4_isHeat (vL C) D ac ad Ex hLay hEx v3 μ4 _ h) gw4_364 mf_X4_isHeat rfl rfl rfl dX4_against_17 (fun r8 μ7 h => ?_)
      refine vv_if_ne (tgt := 25) hC dX4_against_20 rfl (fun c9 => ?_) (fun c9 => ?_)
      · replace h := h.1 c9
        refine vv_iconst hC dX4_against_25 ic_0 ?_
        refine vv_istore (lv' := [(4, .int 0), (0, .ref (ad 0)), (1, .int v1), (2, .int v2), (3, .int v3)]) hC dX4_against_26 (by decide) rfl ?_
        refine vv_iconst hC dX4_against_28 ic_0 ?_
        refine vv_istore (lv' := [(5, .int 0), (4, .int 0), (0, .ref (ad 0)), (1, .int v1), (2, .int v2), (3, .int v3)]) hC dX4_against_29 (by decide) rfl ?_
        refine vv_lv [2, 3, 4, 5, 1, 0] rfl ?_
        exact L31  _ _ _ _ _ _ h
      · replace h := h.2 c9
        refine vv_iconst hC dX4_against_23 ic_m1 ?_
        exact vv_iret hC hM dX4_against_24 h
def w_X4_forge_101 (P40 : Int32 → Int32 → Int32 → Int32 → Int32 → Int32 → Int32 → Int32 → WS → Prop) (v1 : Int32) (v2 : Int32) (v3 : Int32) (v4 : Int32) (v5 : Int32) (v6 : Int32) (v7 : Int32) (v8 : Int32) (μ : WS) (Q : Int32 → WS → Prop) : Prop := P40 v1 v2 v3 v4 v5 v6 v7 (v8 + 1) μ
def w_X4_forge_76 (P40 : Int32 → Int32 → Int32 → Int32 → Int32 → Int32 → Int32 → Int32 → WS → Prop) (v1 : Int32) (v2 : Int32) (v3 : Int32) (v4 : Int32) (v5 : Int32) (v6 : Int32) (v7 : Int32) (v8 : Int32) (v9 : Int32) (μ : WS) (Q : Int32 → WS → Prop) : Prop := (w_X4_castOf v8 v2 v3 0 μ (fun r22 μ21 => ((r22 = v4) → w_X4_forge_101 P40 v1 v2 v3 v4 v5 v8 v9 v8 μ21 Q) ∧ ((¬ r22 = v4) → w_X4_forge_101 P40 v1 v2 v3 v4 v5 v6 v7 v8 μ21 Q)))
def w_X4_forge_40b (P40 : Int32 → Int32 → Int32 → Int32 → Int32 → Int32 → Int32 → Int32 → WS → Prop) (v1 : Int32) (v2 : Int32) (v3 : Int32) (v4 : Int32) (v5 : Int32) (v6 : Int32) (v7 : Int32) (v8 : Int32) (μ : WS) (Q : Int32 → WS → Prop) : Prop := (w_X4_width μ (fun r11 μ10 => ((1 <<< (r11 &&& 31) ≤ v8) → ((0 ≤ v6) → ((¬ v5 = 0) → Q v6 μ10) ∧ ((v5 = 0) → Q v7 μ10)) ∧ ((¬ 0 ≤ v6) → Q (-1) μ10)) ∧ ((¬ 1 <<< (r11 &&& 31) ≤ v8) → (w_X4_rowOf v1 μ10 (fun r16 μ15 => (w_X4_bitsOf (v8 ^^^ r16) μ15 (fun r18 μ17 => ((v6 < 0) → w_X4_forge_76 P40 v1 v2 v3 v4 v5 v6 v7 v8 r18 μ17 Q) ∧ ((¬ v6 < 0) → ((v7 ≤ r18) → w_X4_forge_101 P40 v1 v2 v3 v4 v5 v6 v7 v8 μ17 Q) ∧ ((¬ v7 ≤ r18) → w_X4_forge_76 P40 v1 v2 v3 v4 v5 v6 v7 v8 r18 μ17 Q)))))))))
def w_X4_forge_40 (v1 : Int32) (v2 : Int32) (v3 : Int32) (v4 : Int32) (v5 : Int32) (v6 : Int32) (v7 : Int32) (v8 : Int32) (μ : WS) (Q : Int32 → WS → Prop) : Prop := ∀ P40 : Int32 → Int32 → Int32 → Int32 → Int32 → Int32 → Int32 → Int32 → WS → Prop, (∀ (v1 : Int32) (v2 : Int32) (v3 : Int32) (v4 : Int32) (v5 : Int32) (v6 : Int32) (v7 : Int32) (v8 : Int32) (μ : WS), w_X4_forge_40b  P40 v1 v2 v3 v4 v5 v6 v7 v8 μ Q → P40 v1 v2 v3 v4 v5 v6 v7 v8 μ) → P40 v1 v2 v3 v4 v5 v6 v7 v8 μ
def w_X4_forge (v1 : Int32) (v2 : Int32) (v3 : Int32) (v4 : Int32) (v5 : Int32) (μ : WS) (Q : Int32 → WS → Prop) : Prop := (w_X4_canCast v1 v2 v3 μ (fun r2 μ1 => ((r2 = 0) → Q (-1) μ1) ∧ ((¬ r2 = 0) → (w_X4_isRow v4 μ1 (fun r5 μ4 => ((r5 = 0) → Q (-1) μ4) ∧ ((¬ r5 = 0) → (w_X4_isIn v5 0 1 μ4 (fun r8 μ7 => ((¬ r8 = 0) → w_X4_forge_40 v1 v2 v3 v4 v5 (-1) 0 0 μ7 Q) ∧ ((r8 = 0) → Q (-1) μ7)))))))))
abbrev rm_X4_forge : Room := { frames := 3, cells := 0, slots := 0, locals := 74 }
theorem mf_X4_forge : MFact yX4_forge 5 rm_X4_forge := ⟨by decide +kernel, rfl, rfl⟩
set_option maxHeartbeats 4000000 in
theorem met_X4_forge (l : Launch) (D : va_G) (ac : Nat → ClassId) (ad : Nat → Nat) (Ex : Heap → Prop) (hLay : LayOk ad knM) (hEx : ExOk ad knM Ex) (v1 : Int32) (v2 : Int32) (v3 : Int32) (v4 : Int32) (v5 : Int32) (μ : WS) (Q : Int32 → WS → Prop) (h : w_X4_forge v1 v2 v3 v4 v5 μ Q) : CMet l yX4_forge cX4_forge 10 (some .int) rm_X4_forge D ac ad knM Ex [.ref (ad 0), .int v1, .int v2, .int v3, .int v4, .int v5] μ (qI Q) := by
  refine vv_met (lv := [(0, .ref (ad 0)), (1, .int v1), (2, .int v2), (3, .int v3), (4, .int v4), (5, .int v5)]) (by decide) hLay hEx (Nat.le_of_ble_eq_true rfl) rfl ⟨rfl, rfl⟩ (fun C hC hK hRm hLl hR hM => ?_)
  subst hLl
  have hRo : RoomOk (HPW D ac ad knM Ex (vS C)) (vR C) := HPW.room
  have L101 : ∀ (P40 : Int32 → Int32 → Int32 → Int32 → Int32 → Int32 → Int32 → Int32 → WS → Prop) (h40 : ∀ (v1 : Int32) (v2 : Int32) (v3 : Int32) (v4 : Int32) (v5 : Int32) (v6 : Int32) (v7 : Int32) (v8 : Int32) (μ : WS), P40 v1 v2 v3 v4 v5 v6 v7 v8 μ → VV C 10 (HPW D ac ad knM Ex (vS C)) (vQ C (QcW D ac ad knM (qI Q)) 0 0 (inLay ad knM)) (μ, ()) 40 [(0, .ref (ad 0)), (1, .int v1), (2, .int v2), (3, .int v3), (4, .int v4), (5, .int v5), (6, .int v6), (7, .int v7), (8, .int v8)] []) (v1 : Int32) (v2 : Int32) (v3 : Int32) (v4 : Int32) (v5 : Int32) (v6 : Int32) (v7 : Int32) (v8 : Int32) (μ : WS), w_X4_forge_101 P40 v1 v2 v3 v4 v5 v6 v7 v8 μ Q → VV C 10 (HPW D ac ad knM Ex (vS C)) (vQ C (QcW D ac ad knM (qI Q)) 0 0 (inLay ad knM)) (μ, ()) 101 [(0, .ref (ad 0)), (1, .int v1), (2, .int v2), (3, .int v3), (4, .int v4), (5, .int v5), (6, .int v6), (7, .int v7), (8, .int v8)] [] := by
    intro P40 h40 v1 v2 v3 v4 v5 v6 v7 v8 μ h
    unfold w_X4_forge_101 at h
    refine vv_iinc (pl := 8) (v := v8 + 1) (lv' := [(8, .int (v8 + 1)), (0, .ref (ad 0)), (1, .int v1), (2, .int v2), (3, .int v3), (4, .int v4), (5, .int v5), (6, .int v6), (7, .int v7)]) hC dX4_forge_101 rfl rfl (by decide) rfl ?_
    refine vv_goto (tgt := 40) hC dX4_forge_104 rfl ?_
    refine vv_lv [1, 2, 3, 4, 5, 6, 7, 8, 0] rfl ?_
    exact h40 _ _ _ _ _ _ _ _ _ h
  have L76 : ∀ (P40 : Int32 → Int32 → Int32 → Int32 → Int32 → Int32 → Int32 → Int32 → WS → Prop) (h40 : ∀ (v1 : Int32) (v2 : Int32) (v3 : Int32) (v4 : Int32) (v5 : Int32) (v6 : Int32) (v7 : Int32) (v8 : Int32) (μ : WS), P40 v1 v2 v3 v4 v5 v6 v7 v8 μ → VV C 10 (HPW D ac ad knM Ex (vS C)) (vQ C (QcW D ac ad knM (qI Q)) 0 0 (inLay ad knM)) (μ, ()) 40 [(0, .ref (ad 0)), (1, .int v1), (2, .int v2), (3, .int v3), (4, .int v4), (5, .int v5), (6, .int v6), (7, .int v7), (8, .int v8)] []) (v1 : Int32) (v2 : Int32) (v3 : Int32) (v4 : Int32) (v5 : Int32) (v6 : Int32) (v7 : Int32) (v8 : Int32) (v9 : Int32) (μ : WS), w_X4_forge_76 P40 v1 v2 v3 v4 v5 v6 v7 v8 v9 μ Q → VV C 10 (HPW D ac ad knM Ex (vS C)) (vQ C (QcW D ac ad knM (qI Q)) 0 0 (inLay ad knM)) (μ, ()) 76 [(0, .ref (ad 0)), (1, .int v1), (2, .int v2), (3, .int v3), (4, .int v4), (5, .int v5), (6, .int v6), (7, .int v7), (8, .int v8), (9, .int v9)] [] := by
    intro P40 h40 v1 v2 v3 v4 v5 v6 v7 v8 v9 μ h
    unfold w_X4_forge_76 at h
    refine vv_aload_n hC dX4_forge_76 rfl 0 rfl ?_
    refine vv_iload hC dX4_forge_77 8 rfl ?_
    refine vv_iload_n hC dX4_forge_79 rfl 2 rfl ?_
    refine vv_iload_n hC dX4_forge_80 rfl 3 rfl ?_
    refine vv_iconst hC dX4_forge_81 ic_0 ?_
    refine vv_callVi hC hR hK hRo hRm [.int v8, .int v2, .int v3, .int 0] [] (met_X4_castOf (vL C) D ac ad Ex hLay hEx v8 v2 v3 0 μ _ h) gw4_367 mf_X4_castOf rfl lm_0 rfl rfl rfl rfl dX4_forge_82 (fun r22 μ21 h => ?_)
    refine vv_iload hC dX4_forge_85 4 rfl ?_
    refine vv_icmp_eq (tgt := 93) hC dX4_forge_87 rfl (fun c23 => ?_) (fun c23 => ?_)
    · replace h := h.1 c23
      refine vv_iload hC dX4_forge_93 8 rfl ?_
      refine vv_istore (lv' := [(6, .int v8), (0, .ref (ad 0)), (1, .int v1), (2, .int v2), (3, .int v3), (4, .int v4), (5, .int v5), (7, .int v7), (8, .int v8), (9, .int v9)]) hC dX4_forge_95 (by decide) rfl ?_
      refine vv_iload hC dX4_forge_97 9 rfl ?_
      refine vv_istore (lv' := [(7, .int v9), (6, .int v8), (0, .ref (ad 0)), (1, .int v1), (2, .int v2), (3, .int v3), (4, .int v4), (5, .int v5), (8, .int v8), (9, .int v9)]) hC dX4_forge_99 (by decide) rfl ?_
      refine vv_lv [2, 3, 4, 5, 6, 7, 1, 0, 8] rfl ?_
      exact L101 _ h40 _ _ _ _ _ _ _ _ _ h
    · replace h := h.2 c23
      refine vv_goto (tgt := 101) hC dX4_forge_90 rfl ?_
      refine vv_lv [0, 1, 2, 3, 4, 5, 6, 7, 8] rfl ?_
      exact L101 _ h40 _ _ _ _ _ _ _ _ _ h
  have L40 : ∀ (v1 : Int32) (v2 : Int32) (v3 : Int32) (v4 : Int32) (v5 : Int32) (v6 : Int32) (v7 : Int32) (v8 : Int32) (μ : WS), w_X4_forge_40  v1 v2 v3 v4 v5 v6 v7 v8 μ Q → VV C 10 (HPW D ac ad knM Ex (vS C)) (vQ C (QcW D ac ad knM (qI Q)) 0 0 (inLay ad knM)) (μ, ()) 40 [(0, .ref (ad 0)), (1, .int v1), (2, .int v2), (3, .int v3), (4, .int v4), (5, .int v5), (6, .int v6), (7, .int v7), (8, .int v8)] [] := by
    intro  v1 v2 v3 v4 v5 v6 v7 v8 μ h
    refine h (fun v1 v2 v3 v4 v5 v6 v7 v8 μ => VV C 10 (HPW D ac ad knM Ex (vS C)) (vQ C (QcW D ac ad knM (qI Q)) 0 0 (inLay ad knM)) (μ, ()) 40 [(0, .ref (ad 0)), (1, .int v1), (2, .int v2), (3, .int v3), (4, .int v4), (5, .int v5), (6, .int v6), (7, .int v7), (8, .int v8)] []) ?_
    clear h; intro v1 v2 v3 v4 v5 v6 v7 v8 μ h
    have h40 : ∀ (v1 : Int32) (v2 : Int32) (v3 : Int32) (v4 : Int32) (v5 : Int32) (v6 : Int32) (v7 : Int32) (v8 : Int32) (μ : WS), (fun v1 v2 v3 v4 v5 v6 v7 v8 (μ : WS) => VV C 10 (HPW D ac ad knM Ex (vS C)) (vQ C (QcW D ac ad knM (qI Q)) 0 0 (inLay ad knM)) (μ, ()) 40 [(0, .ref (ad 0)), (1, .int v1), (2, .int v2), (3, .int v3), (4, .int v4), (5, .int v5), (6, .int v6), (7, .int v7), (8, .int v8)] []) v1 v2 v3 v4 v5 v6 v7 v8 μ → VV C 10 (HPW D ac ad knM Ex (vS C)) (vQ C (QcW D ac ad knM (qI Q)) 0 0 (inLay ad knM)) (μ, ()) 40 [(0, .ref (ad 0)), (1, .int v1), (2, .int v2), (3, .int v3), (4, .int v4), (5, .int v5), (6, .int v6), (7, .int v7), (8, .int v8)] [] := fun _ _ _ _ _ _ _ _ _ h => h
    unfold w_X4_forge_40b at h
    refine vv_iload hC dX4_forge_40 8 rfl ?_
    refine vv_iconst hC dX4_forge_42 ic_1 ?_
    refine vv_aload_n hC dX4_forge_43 rfl 0 rfl ?_
    refine vv_callVi hC hR hK hRo hRm [] [.int 1, .int v8] (met_X4_width (vL C) D ac ad Ex hLay hEx  μ _ h) gw4_342 mf_X4_width rfl lm_0 rfl rfl rfl rfl dX4_forge_44 (fun r11 μ10 h => ?_)
    refine vv_ishl hC dX4_forge_47 ?_
    refine vv_icmp_ge (tgt := 107) hC dX4_forge_48 rfl (fun c12 => ?_) (fun c12 => ?_)
    · replace h := h.1 c12
      refine vv_iload hC dX4_forge_107 6 rfl ?_
      refine vv_if_ge (tgt := 116) hC dX4_forge_109 rfl (fun c13 => ?_) (fun c13 => ?_)
      · replace h := h.1 c13
        refine vv_iload hC dX4_forge_116 5 rfl ?_
        refine vv_if_ne (tgt := 126) hC dX4_forge_118 rfl (fun c14 => ?_) (fun c14 => ?_)
        · replace h := h.1 c14
          refine vv_iload hC dX4_forge_126 6 rfl ?_
          exact vv_iret hC hM dX4_forge_128 h
        · replace h := h.2 c14
          refine vv_iload hC dX4_forge_121 7 rfl ?_
          refine vv_goto (tgt := 128) hC dX4_forge_123 rfl ?_
          exact vv_iret hC hM dX4_forge_128 h
      · replace h := h.2 c13
        refine vv_iconst hC dX4_forge_112 ic_m1 ?_
        refine vv_goto (tgt := 128) hC dX4_forge_113 rfl ?_
        exact vv_iret hC hM dX4_forge_128 h
    · replace h := h.2 c12
      refine vv_iload hC dX4_forge_51 8 rfl ?_
      refine vv_aload_n hC dX4_forge_53 rfl 0 rfl ?_
      refine vv_iload_n hC dX4_forge_54 rfl 1 rfl ?_
      refine vv_callVi hC hR hK hRo hRm [.int v1] [.int v8] (met_X4_rowOf (vL C) D ac ad Ex hLay hEx v1 μ10 _ h) gw4_392 mf_X4_rowOf rfl lm_0 rfl rfl rfl rfl dX4_forge_55 (fun r16 μ15 h => ?_)
      refine vv_ixor hC dX4_forge_58 ?_
      refine vv_callSi hC hR hK hRo hRm [.int (v8 ^^^ r16)] [] (met_X4_bitsOf (vL C) D ac ad Ex hLay hEx (v8 ^^^ r16) μ15 _ h) gw4_352 mf_X4_bitsOf rfl rfl rfl dX4_forge_59 (fun r18 μ17 h => ?_)
      refine vv_istore (lv' := [(9, .int r18), (0, .ref (ad 0)), (1, .int v1), (2, .int v2), (3, .int v3), (4, .int v4), (5, .int v5), (6, .int v6), (7, .int v7), (8, .int v8)]) hC dX4_forge_62 (by decide) rfl ?_
      refine vv_iload hC dX4_forge_64 7 rfl ?_
      refine vv_if_lt (tgt := 76) hC dX4_forge_66 rfl (fun c19 => ?_) (fun c19 => ?_)
      · replace h := h.1 c19
        refine vv_lv [1, 2, 3, 4, 5, 6, 7, 8, 9, 0] rfl ?_
        exact L76 _ h40 _ _ _ _ _ _ _ _ _ _ h
      · replace h := h.2 c19
        refine vv_iload hC dX4_forge_69 0 rfl ?_
        refine vv_iload hC dX4_forge_71 8 rfl ?_
        refine vv_icmp_ge (tgt := 101) hC dX4_forge_73 rfl (fun c20 => ?_) (fun c20 => ?_)
        · replace h := h.1 c20
          refine vv_lv [1, 2, 3, 4, 5, 6, 7, 8, 9] rfl ?_
          exact L101 _ h40 _ _ _ _ _ _ _ _ _ h
        · replace h := h.2 c20
          refine vv_lv [1, 2, 3, 4, 5, 6, 7, 8, 9, 0] rfl ?_
          exact L76 _ h40 _ _ _ _ _ _ _ _ _ _ h
  unfold w_X4_forge at h
  refine vv_aload_n hC dX4_forge_0 rfl 0 rfl ?_
  refine vv_iload_n hC dX4_forge_1 rfl 1 rfl ?_
  refine vv_iload_n hC dX4_forge_2 rfl 2 rfl ?_
  refine vv_iload_n hC dX4_forge_3 rfl 3 rfl ?_
  refine vv_callVi hC hR hK hRo hRm [.int v1, .int v2, .int v3] [] (met_X4_canCast (vL C) D ac ad Ex hLay hEx v1 v2 v3 μ _ h) gw4_398 mf_X4_canCast rfl lm_0 rfl rfl rfl rfl dX4_forge_4 (fun r2 μ1 h => ?_)
  refine vv_if_eq (tgt := 29) hC dX4_forge_7 rfl (fun c3 => ?_) (fun c3 => ?_)
  · replace h := h.1 c3
    refine vv_iconst hC dX4_forge_29 ic_m1 ?_
    exact vv_iret hC hM dX4_forge_30 h
  · replace h := h.2 c3
    refine vv_aload_n hC dX4_forge_10 rfl 0 rfl ?_
    refine vv_iload hC dX4_forge_11 4 rfl ?_
    refine vv_callVi hC hR hK hRo hRm [.int v4] [] (met_X4_isRow (vL C) D ac ad Ex hLay hEx v4 μ1 _ h) gw4_358 mf_X4_isRow rfl lm_0 rfl rfl rfl rfl dX4_forge_13 (fun r5 μ4 h => ?_)
    refine vv_if_eq (tgt := 29) hC dX4_forge_16 rfl (fun c6 => ?_) (fun c6 => ?_)
    · replace h := h.1 c6
      refine vv_iconst hC dX4_forge_29 ic_m1 ?_
      exact vv_iret hC hM dX4_forge_30 h
    · replace h := h.2 c6
      refine vv_iload hC dX4_forge_19 5 rfl ?_
      refine vv_iconst hC dX4_forge_21 ic_0 ?_
      refine vv_iconst hC dX4_forge_22 ic_1 ?_
      refine vv_callSi hC hR hK hRo hRm [.int v5, .int 0, .int 1] [] (met_X4_isIn (vL C) D ac ad Ex hLay hEx v5 0 1 μ4 _ h) gw4_345 mf_X4_isIn rfl rfl rfl dX4_forge_23 (fun r8 μ7 h => ?_)
      refine vv_if_ne (tgt := 31) hC dX4_forge_26 rfl (fun c9 => ?_) (fun c9 => ?_)
      · replace h := h.1 c9
        refine vv_iconst hC dX4_forge_31 ic_m1 ?_
        refine vv_istore (lv' := [(6, .int (-1)), (0, .ref (ad 0)), (1, .int v1), (2, .int v2), (3, .int v3), (4, .int v4), (5, .int v5)]) hC dX4_forge_32 (by decide) rfl ?_
        refine vv_iconst hC dX4_forge_34 ic_0 ?_
        refine vv_istore (lv' := [(7, .int 0), (6, .int (-1)), (0, .ref (ad 0)), (1, .int v1), (2, .int v2), (3, .int v3), (4, .int v4), (5, .int v5)]) hC dX4_forge_35 (by decide) rfl ?_
        refine vv_iconst hC dX4_forge_37 ic_0 ?_
        refine vv_istore (lv' := [(8, .int 0), (7, .int 0), (6, .int (-1)), (0, .ref (ad 0)), (1, .int v1), (2, .int v2), (3, .int v3), (4, .int v4), (5, .int v5)]) hC dX4_forge_38 (by decide) rfl ?_
        refine vv_lv [3, 4, 5, 6, 7, 8, 2, 1, 0] rfl ?_
        exact L40  _ _ _ _ _ _ _ _ _ h
      · replace h := h.2 c9
        refine vv_iconst hC dX4_forge_29 ic_m1 ?_
        exact vv_iret hC hM dX4_forge_30 h
def w_X4_nearest_115 (P27 : Int32 → Int32 → Int32 → Int32 → Int32 → WS → Prop) (v1 : Int32) (v2 : Int32) (v3 : Int32) (v4 : Int32) (v5 : Int32) (μ : WS) (Q : Int32 → WS → Prop) : Prop := P27 v1 v2 v3 v4 (v5 + 1) μ
def w_X4_nearest_108 (P27 : Int32 → Int32 → Int32 → Int32 → Int32 → WS → Prop) (v1 : Int32) (v2 : Int32) (v5 : Int32) (v7 : Int32) (μ : WS) (Q : Int32 → WS → Prop) : Prop := w_X4_nearest_115 P27 v1 v2 v5 v7 v5 μ Q
def w_X4_nearest_88 (P27 : Int32 → Int32 → Int32 → Int32 → Int32 → WS → Prop) (s0 : Int32) (s1 : Int32) (v1 : Int32) (v2 : Int32) (v3 : Int32) (v4 : Int32) (v5 : Int32) (μ : WS) (Q : Int32 → WS → Prop) : Prop := (w_X4_bitsOf (s1 ^^^ s0) μ (fun r19 μ18 => ((v3 < 0) → w_X4_nearest_108 P27 v1 v2 v5 r19 μ18 Q) ∧ ((¬ v3 < 0) → ((r19 < v4) → w_X4_nearest_108 P27 v1 v2 v5 r19 μ18 Q) ∧ ((¬ r19 < v4) → w_X4_nearest_115 P27 v1 v2 v3 v4 v5 μ18 Q))))
def w_X4_nearest_27b (P27 : Int32 → Int32 → Int32 → Int32 → Int32 → WS → Prop) (v1 : Int32) (v2 : Int32) (v3 : Int32) (v4 : Int32) (v5 : Int32) (μ : WS) (Q : Int32 → WS → Prop) : Prop := ((2 * (μ.1 21 216) ≤ v5) → ((¬ v2 = 0) → ((¬ v2 = 1) → (¬ μ.1 21 216 = 0 ∧ Q (v3 / (μ.1 21 216)) μ)) ∧ ((v2 = 1) → (¬ μ.1 21 216 = 0 ∧ Q (v3 - v3 / (μ.1 21 216) * (μ.1 21 216)) μ))) ∧ ((v2 = 0) → Q v4 μ)) ∧ ((¬ 2 * (μ.1 21 216) ≤ v5) → (¬ μ.1 21 216 = 0 ∧ (∀ x10 : Int32, x10 = v5 - v5 / (μ.1 21 216) * (μ.1 21 216) → ((μ.1 21 216 ≤ v5) → (w_X4_rowOf x10 μ (fun r13 μ12 => w_X4_nearest_88 P27 r13 v1 v1 v2 v3 v4 v5 μ12 Q))) ∧ ((¬ μ.1 21 216 ≤ v5) → (w_X4_rowOf x10 μ (fun r15 μ14 => (w_X4_turnedRow r15 μ14 (fun r17 μ16 => w_X4_nearest_88 P27 r17 v1 v1 v2 v3 v4 v5 μ16 Q))))))))
def w_X4_nearest_27 (v1 : Int32) (v2 : Int32) (v3 : Int32) (v4 : Int32) (v5 : Int32) (μ : WS) (Q : Int32 → WS → Prop) : Prop := ∀ P27 : Int32 → Int32 → Int32 → Int32 → Int32 → WS → Prop, (∀ (v1 : Int32) (v2 : Int32) (v3 : Int32) (v4 : Int32) (v5 : Int32) (μ : WS), w_X4_nearest_27b  P27 v1 v2 v3 v4 v5 μ Q → P27 v1 v2 v3 v4 v5 μ) → P27 v1 v2 v3 v4 v5 μ
def w_X4_nearest (v1 : Int32) (v2 : Int32) (μ : WS) (Q : Int32 → WS → Prop) : Prop := (w_X4_isRow v1 μ (fun r2 μ1 => ((r2 = 0) → Q (-1) μ1) ∧ ((¬ r2 = 0) → (w_X4_isIn v2 0 2 μ1 (fun r5 μ4 => ((¬ r5 = 0) → w_X4_nearest_27 v1 v2 (-1) 0 0 μ4 Q) ∧ ((r5 = 0) → Q (-1) μ4))))))
abbrev rm_X4_nearest : Room := { frames := 2, cells := 0, slots := 0, locals := 43 }
theorem mf_X4_nearest : MFact yX4_nearest 2 rm_X4_nearest := ⟨by decide +kernel, rfl, rfl⟩
set_option maxHeartbeats 4000000 in
theorem met_X4_nearest (l : Launch) (D : va_G) (ac : Nat → ClassId) (ad : Nat → Nat) (Ex : Heap → Prop) (hLay : LayOk ad knM) (hEx : ExOk ad knM Ex) (v1 : Int32) (v2 : Int32) (μ : WS) (Q : Int32 → WS → Prop) (h : w_X4_nearest v1 v2 μ Q) : CMet l yX4_nearest cX4_nearest 8 (some .int) rm_X4_nearest D ac ad knM Ex [.ref (ad 0), .int v1, .int v2] μ (qI Q) := by
  refine vv_met (lv := [(0, .ref (ad 0)), (1, .int v1), (2, .int v2)]) (by decide) hLay hEx (Nat.le_of_ble_eq_true rfl) rfl ⟨rfl, rfl⟩ (fun C hC hK hRm hLl hR hM => ?_)
  subst hLl
  have hRo : RoomOk (HPW D ac ad knM Ex (vS C)) (vR C) := HPW.room
  have L115 : ∀ (P27 : Int32 → Int32 → Int32 → Int32 → Int32 → WS → Prop) (h27 : ∀ (v1 : Int32) (v2 : Int32) (v3 : Int32) (v4 : Int32) (v5 : Int32) (μ : WS), P27 v1 v2 v3 v4 v5 μ → VV C 8 (HPW D ac ad knM Ex (vS C)) (vQ C (QcW D ac ad knM (qI Q)) 0 0 (inLay ad knM)) (μ, ()) 27 [(0, .ref (ad 0)), (1, .int v1), (2, .int v2), (3, .int v3), (4, .int v4), (5, .int v5)] []) (v1 : Int32) (v2 : Int32) (v3 : Int32) (v4 : Int32) (v5 : Int32) (μ : WS), w_X4_nearest_115 P27 v1 v2 v3 v4 v5 μ Q → VV C 8 (HPW D ac ad knM Ex (vS C)) (vQ C (QcW D ac ad knM (qI Q)) 0 0 (inLay ad knM)) (μ, ()) 115 [(0, .ref (ad 0)), (1, .int v1), (2, .int v2), (3, .int v3), (4, .int v4), (5, .int v5)] [] := by
    intro P27 h27 v1 v2 v3 v4 v5 μ h
    unfold w_X4_nearest_115 at h
    refine vv_iinc (pl := 5) (v := v5 + 1) (lv' := [(5, .int (v5 + 1)), (0, .ref (ad 0)), (1, .int v1), (2, .int v2), (3, .int v3), (4, .int v4)]) hC dX4_nearest_115 rfl rfl (by decide) rfl ?_
    refine vv_goto (tgt := 27) hC dX4_nearest_118 rfl ?_
    refine vv_lv [1, 2, 3, 4, 5, 0] rfl ?_
    exact h27 _ _ _ _ _ _ h
  have L108 : ∀ (P27 : Int32 → Int32 → Int32 → Int32 → Int32 → WS → Prop) (h27 : ∀ (v1 : Int32) (v2 : Int32) (v3 : Int32) (v4 : Int32) (v5 : Int32) (μ : WS), P27 v1 v2 v3 v4 v5 μ → VV C 8 (HPW D ac ad knM Ex (vS C)) (vQ C (QcW D ac ad knM (qI Q)) 0 0 (inLay ad knM)) (μ, ()) 27 [(0, .ref (ad 0)), (1, .int v1), (2, .int v2), (3, .int v3), (4, .int v4), (5, .int v5)] []) (v1 : Int32) (v2 : Int32) (v5 : Int32) (v7 : Int32) (μ : WS), w_X4_nearest_108 P27 v1 v2 v5 v7 μ Q → VV C 8 (HPW D ac ad knM Ex (vS C)) (vQ C (QcW D ac ad knM (qI Q)) 0 0 (inLay ad knM)) (μ, ()) 108 [(0, .ref (ad 0)), (1, .int v1), (2, .int v2), (5, .int v5), (7, .int v7)] [] := by
    intro P27 h27 v1 v2 v5 v7 μ h
    unfold w_X4_nearest_108 at h
    refine vv_iload hC dX4_nearest_108 3 rfl ?_
    refine vv_istore_n (lv' := [(3, .int v5), (0, .ref (ad 0)), (1, .int v1), (2, .int v2), (5, .int v5), (7, .int v7)]) hC dX4_nearest_110 rfl (by decide) rfl ?_
    refine vv_iload hC dX4_nearest_111 5 rfl ?_
    refine vv_istore (lv' := [(4, .int v7), (3, .int v5), (0, .ref (ad 0)), (1, .int v1), (2, .int v2), (5, .int v5), (7, .int v7)]) hC dX4_nearest_113 (by decide) rfl ?_
    refine vv_lv [2, 3, 4, 1, 0, 5] rfl ?_
    exact L115 _ h27 _ _ _ _ _ _ h
  have L88 : ∀ (P27 : Int32 → Int32 → Int32 → Int32 → Int32 → WS → Prop) (h27 : ∀ (v1 : Int32) (v2 : Int32) (v3 : Int32) (v4 : Int32) (v5 : Int32) (μ : WS), P27 v1 v2 v3 v4 v5 μ → VV C 8 (HPW D ac ad knM Ex (vS C)) (vQ C (QcW D ac ad knM (qI Q)) 0 0 (inLay ad knM)) (μ, ()) 27 [(0, .ref (ad 0)), (1, .int v1), (2, .int v2), (3, .int v3), (4, .int v4), (5, .int v5)] []) (s0 : Int32) (s1 : Int32) (v1 : Int32) (v2 : Int32) (v3 : Int32) (v4 : Int32) (v5 : Int32) (μ : WS), w_X4_nearest_88 P27 s0 s1 v1 v2 v3 v4 v5 μ Q → VV C 8 (HPW D ac ad knM Ex (vS C)) (vQ C (QcW D ac ad knM (qI Q)) 0 0 (inLay ad knM)) (μ, ()) 88 [(0, .ref (ad 0)), (1, .int v1), (2, .int v2), (3, .int v3), (4, .int v4), (5, .int v5)] [.int s0, .int s1] := by
    intro P27 h27 s0 s1 v1 v2 v3 v4 v5 μ h
    unfold w_X4_nearest_88 at h
    refine vv_ixor hC dX4_nearest_88 ?_
    refine vv_callSi hC hR hK hRo hRm [.int (s1 ^^^ s0)] [] (met_X4_bitsOf (vL C) D ac ad Ex hLay hEx (s1 ^^^ s0) μ _ h) gw4_352 mf_X4_bitsOf rfl rfl rfl dX4_nearest_89 (fun r19 μ18 h => ?_)
    refine vv_istore (lv' := [(7, .int r19), (0, .ref (ad 0)), (1, .int v1), (2, .int v2), (3, .int v3), (4, .int v4), (5, .int v5)]) hC dX4_nearest_92 (by decide) rfl ?_
    refine vv_iload_n hC dX4_nearest_94 rfl 4 rfl ?_
    refine vv_if_lt (tgt := 108) hC dX4_nearest_95 rfl (fun c20 => ?_) (fun c20 => ?_)
    · replace h := h.1 c20
      refine vv_lv [1, 2, 3, 6, 0] rfl ?_
      exact L108 _ h27 _ _ _ _ _ h
    · replace h := h.2 c20
      refine vv_iload hC dX4_nearest_98 0 rfl ?_
      refine vv_iload hC dX4_nearest_100 5 rfl ?_
      refine vv_icmp_lt (tgt := 108) hC dX4_nearest_102 rfl (fun c21 => ?_) (fun c21 => ?_)
      · replace h := h.1 c21
        refine vv_lv [1, 2, 3, 6, 0] rfl ?_
        exact L108 _ h27 _ _ _ _ _ h
      · replace h := h.2 c21
        refine vv_goto (tgt := 115) hC dX4_nearest_105 rfl ?_
        refine vv_lv [1, 2, 3, 4, 5, 6] rfl ?_
        exact L115 _ h27 _ _ _ _ _ _ h
  have L27 : ∀ (v1 : Int32) (v2 : Int32) (v3 : Int32) (v4 : Int32) (v5 : Int32) (μ : WS), w_X4_nearest_27  v1 v2 v3 v4 v5 μ Q → VV C 8 (HPW D ac ad knM Ex (vS C)) (vQ C (QcW D ac ad knM (qI Q)) 0 0 (inLay ad knM)) (μ, ()) 27 [(0, .ref (ad 0)), (1, .int v1), (2, .int v2), (3, .int v3), (4, .int v4), (5, .int v5)] [] := by
    intro  v1 v2 v3 v4 v5 μ h
    refine h (fun v1 v2 v3 v4 v5 μ => VV C 8 (HPW D ac ad knM Ex (vS C)) (vQ C (QcW D ac ad knM (qI Q)) 0 0 (inLay ad knM)) (μ, ()) 27 [(0, .ref (ad 0)), (1, .int v1), (2, .int v2), (3, .int v3), (4, .int v4), (5, .int v5)] []) ?_
    clear h; intro v1 v2 v3 v4 v5 μ h
    have h27 : ∀ (v1 : Int32) (v2 : Int32) (v3 : Int32) (v4 : Int32) (v5 : Int32) (μ : WS), (fun v1 v2 v3 v4 v5 (μ : WS) => VV C 8 (HPW D ac ad knM Ex (vS C)) (vQ C (QcW D ac ad knM (qI Q)) 0 0 (inLay ad knM)) (μ, ()) 27 [(0, .ref (ad 0)), (1, .int v1), (2, .int v2), (3, .int v3), (4, .int v4), (5, .int v5)] []) v1 v2 v3 v4 v5 μ → VV C 8 (HPW D ac ad knM Ex (vS C)) (vQ C (QcW D ac ad knM (qI Q)) 0 0 (inLay ad knM)) (μ, ()) 27 [(0, .ref (ad 0)), (1, .int v1), (2, .int v2), (3, .int v3), (4, .int v4), (5, .int v5)] [] := fun _ _ _ _ _ _ h => h
    unfold w_X4_nearest_27b at h
    refine vv_iload hC dX4_nearest_27 5 rfl ?_
    refine vv_iconst hC dX4_nearest_29 ic_2 ?_
    refine vv_aload_n hC dX4_nearest_30 rfl 0 rfl ?_
    refine vv_getf hC hR hK fa4_77 0 lm_0 (fm_40 ad _ _ _) dX4_nearest_31 ?_
    refine vv_sipush hC dX4_nearest_34 sp_216 ?_
    refine vv_iald hC hR hK 21 lm_21 vin_216_221 dX4_nearest_37 ?_
    refine vv_imul hC dX4_nearest_38 ?_
    refine vv_icmp_ge (tgt := 121) hC dX4_nearest_39 rfl (fun c7 => ?_) (fun c7 => ?_)
    · replace h := h.1 c7
      refine vv_iload_n hC dX4_nearest_121 rfl 2 rfl ?_
      refine vv_if_ne (tgt := 128) hC dX4_nearest_122 rfl (fun c8 => ?_) (fun c8 => ?_)
      · replace h := h.1 c8
        refine vv_iload_n hC dX4_nearest_128 rfl 2 rfl ?_
        refine vv_iconst hC dX4_nearest_129 ic_1 ?_
        refine vv_icmp_ne (tgt := 146) hC dX4_nearest_130 rfl (fun c9 => ?_) (fun c9 => ?_)
        · replace h := h.1 c9
          refine vv_iload_n hC dX4_nearest_146 rfl 3 rfl ?_
          refine vv_aload_n hC dX4_nearest_147 rfl 0 rfl ?_
          refine vv_getf hC hR hK fa4_77 0 lm_0 (fm_40 ad _ _ _) dX4_nearest_148 ?_
          refine vv_sipush hC dX4_nearest_151 sp_216 ?_
          refine vv_iald hC hR hK 21 lm_21 vin_216_221 dX4_nearest_154 ?_
          obtain ⟨hne, h⟩ := h
          refine vv_idiv hC dX4_nearest_155 hne ?_
          exact vv_iret hC hM dX4_nearest_156 h
        · replace h := h.2 c9
          refine vv_iload_n hC dX4_nearest_133 rfl 3 rfl ?_
          refine vv_aload_n hC dX4_nearest_134 rfl 0 rfl ?_
          refine vv_getf hC hR hK fa4_77 0 lm_0 (fm_40 ad _ _ _) dX4_nearest_135 ?_
          refine vv_sipush hC dX4_nearest_138 sp_216 ?_
          refine vv_iald hC hR hK 21 lm_21 vin_216_221 dX4_nearest_141 ?_
          obtain ⟨hne, h⟩ := h
          refine vv_irem hC dX4_nearest_142 hne ?_
          refine vv_goto (tgt := 156) hC dX4_nearest_143 rfl ?_
          exact vv_iret hC hM dX4_nearest_156 h
      · replace h := h.2 c8
        refine vv_iload hC dX4_nearest_125 4 rfl ?_
        exact vv_iret hC hM dX4_nearest_127 h
    · replace h := h.2 c7
      refine vv_iload hC dX4_nearest_42 5 rfl ?_
      refine vv_aload_n hC dX4_nearest_44 rfl 0 rfl ?_
      refine vv_getf hC hR hK fa4_77 0 lm_0 (fm_40 ad _ _ _) dX4_nearest_45 ?_
      refine vv_sipush hC dX4_nearest_48 sp_216 ?_
      refine vv_iald hC hR hK 21 lm_21 vin_216_221 dX4_nearest_51 ?_
      obtain ⟨hne, h⟩ := h
      refine vv_irem hC dX4_nearest_52 hne ?_
      refine vv_topi (fun x10 ex10 => ?_)
      replace h := h x10 ex10
      refine vv_istore (lv' := [(6, .int x10), (0, .ref (ad 0)), (1, .int v1), (2, .int v2), (3, .int v3), (4, .int v4), (5, .int v5)]) hC dX4_nearest_53 (by decide) rfl ?_
      refine vv_iload_n hC dX4_nearest_55 rfl 2 rfl ?_
      refine vv_iload hC dX4_nearest_56 6 rfl ?_
      refine vv_aload_n hC dX4_nearest_58 rfl 1 rfl ?_
      refine vv_getf hC hR hK fa4_77 0 lm_0 (fm_40 ad _ _ _) dX4_nearest_59 ?_
      refine vv_sipush hC dX4_nearest_62 sp_216 ?_
      refine vv_iald hC hR hK 21 lm_21 vin_216_221 dX4_nearest_65 ?_
      refine vv_icmp_ge (tgt := 82) hC dX4_nearest_66 rfl (fun c11 => ?_) (fun c11 => ?_)
      · replace h := h.1 c11
        refine vv_aload_n hC dX4_nearest_82 rfl 1 rfl ?_
        refine vv_iload hC dX4_nearest_83 0 rfl ?_
        refine vv_callVi hC hR hK hRo hRm [.int x10] [.int v1] (met_X4_rowOf (vL C) D ac ad Ex hLay hEx x10 μ _ h) gw4_392 mf_X4_rowOf rfl lm_0 rfl rfl rfl rfl dX4_nearest_85 (fun r13 μ12 h => ?_)
        refine vv_lv [1, 2, 3, 4, 5, 6] rfl ?_
        exact L88 _ h27 _ _ _ _ _ _ _ _ h
      · replace h := h.2 c11
        refine vv_aload_n hC dX4_nearest_69 rfl 1 rfl ?_
        refine vv_aload_n hC dX4_nearest_70 rfl 1 rfl ?_
        refine vv_iload hC dX4_nearest_71 0 rfl ?_
        refine vv_callVi hC hR hK hRo hRm [.int x10] [.ref (ad 0), .int v1] (met_X4_rowOf (vL C) D ac ad Ex hLay hEx x10 μ _ h) gw4_392 mf_X4_rowOf rfl lm_0 rfl rfl rfl rfl dX4_nearest_73 (fun r15 μ14 h => ?_)
        refine vv_callVi hC hR hK hRo hRm [.int r15] [.int v1] (met_X4_turnedRow (vL C) D ac ad Ex hLay hEx r15 μ14 _ h) gw4_349 mf_X4_turnedRow rfl lm_0 rfl rfl rfl rfl dX4_nearest_76 (fun r17 μ16 h => ?_)
        refine vv_goto (tgt := 88) hC dX4_nearest_79 rfl ?_
        refine vv_lv [1, 2, 3, 4, 5, 6] rfl ?_
        exact L88 _ h27 _ _ _ _ _ _ _ _ h
  unfold w_X4_nearest at h
  refine vv_aload_n hC dX4_nearest_0 rfl 0 rfl ?_
  refine vv_iload_n hC dX4_nearest_1 rfl 1 rfl ?_
  refine vv_callVi hC hR hK hRo hRm [.int v1] [] (met_X4_isRow (vL C) D ac ad Ex hLay hEx v1 μ _ h) gw4_358 mf_X4_isRow rfl lm_0 rfl rfl rfl rfl dX4_nearest_2 (fun r2 μ1 h => ?_)
  refine vv_if_eq (tgt := 17) hC dX4_nearest_5 rfl (fun c3 => ?_) (fun c3 => ?_)
  · replace h := h.1 c3
    refine vv_iconst hC dX4_nearest_17 ic_m1 ?_
    exact vv_iret hC hM dX4_nearest_18 h
  · replace h := h.2 c3
    refine vv_iload_n hC dX4_nearest_8 rfl 2 rfl ?_
    refine vv_iconst hC dX4_nearest_9 ic_0 ?_
    refine vv_iconst hC dX4_nearest_10 ic_2 ?_
    refine vv_callSi hC hR hK hRo hRm [.int v2, .int 0, .int 2] [] (met_X4_isIn (vL C) D ac ad Ex hLay hEx v2 0 2 μ1 _ h) gw4_345 mf_X4_isIn rfl rfl rfl dX4_nearest_11 (fun r5 μ4 h => ?_)
    refine vv_if_ne (tgt := 19) hC dX4_nearest_14 rfl (fun c6 => ?_) (fun c6 => ?_)
    · replace h := h.1 c6
      refine vv_iconst hC dX4_nearest_19 ic_m1 ?_
      refine vv_istore_n (lv' := [(3, .int (-1)), (0, .ref (ad 0)), (1, .int v1), (2, .int v2)]) hC dX4_nearest_20 rfl (by decide) rfl ?_
      refine vv_iconst hC dX4_nearest_21 ic_0 ?_
      refine vv_istore (lv' := [(4, .int 0), (3, .int (-1)), (0, .ref (ad 0)), (1, .int v1), (2, .int v2)]) hC dX4_nearest_22 (by decide) rfl ?_
      refine vv_iconst hC dX4_nearest_24 ic_0 ?_
      refine vv_istore (lv' := [(5, .int 0), (4, .int 0), (3, .int (-1)), (0, .ref (ad 0)), (1, .int v1), (2, .int v2)]) hC dX4_nearest_25 (by decide) rfl ?_
      refine vv_lv [3, 4, 5, 2, 1, 0] rfl ?_
      exact L27  _ _ _ _ _ _ h
    · replace h := h.2 c6
      refine vv_iconst hC dX4_nearest_17 ic_m1 ?_
      exact vv_iret hC hM dX4_nearest_18 h
def w_X4_common_78b (P78 : Int32 → Int32 → Int32 → WS → Prop) (v1 : Int32) (v2 : Int32) (v3 : Int32) (μ : WS) (Q : Int32 → WS → Prop) : Prop := ((μ.1 21 217 ≤ v3) → Q v2 μ) ∧ ((¬ μ.1 21 217 ≤ v3) → ((¬ v1 = 2) → Q v2 μ) ∧ ((v1 = 2) → (vp_in (96 + (3 * v3)) 221 ∧ (∀ x16 : Int32, x16 = v2 &&& (μ.1 21 (96 + (3 * v3)).toNatClampNeg) → P78 v1 x16 (v3 + 1) μ))))
def w_X4_common_78 (v1 : Int32) (v2 : Int32) (v3 : Int32) (μ : WS) (Q : Int32 → WS → Prop) : Prop := ∀ P78 : Int32 → Int32 → Int32 → WS → Prop, (∀ (v1 : Int32) (v2 : Int32) (v3 : Int32) (μ : WS), w_X4_common_78b  P78 v1 v2 v3 μ Q → P78 v1 v2 v3 μ) → P78 v1 v2 v3 μ
def w_X4_common_76 (v1 : Int32) (v2 : Int32) (μ : WS) (Q : Int32 → WS → Prop) : Prop := w_X4_common_78 v1 v2 0 μ Q
def w_X4_common_69 (P31 : Int32 → Int32 → Int32 → WS → Prop) (s0 : Int32) (v1 : Int32) (v3 : Int32) (μ : WS) (Q : Int32 → WS → Prop) : Prop := P31 v1 s0 (v3 + 1) μ
def w_X4_common_31b (P31 : Int32 → Int32 → Int32 → WS → Prop) (v1 : Int32) (v2 : Int32) (v3 : Int32) (μ : WS) (Q : Int32 → WS → Prop) : Prop := ((μ.1 21 216 ≤ v3) → w_X4_common_76 v1 v2 μ Q) ∧ ((¬ μ.1 21 216 ≤ v3) → ((2 ≤ v1) → w_X4_common_76 v1 v2 μ Q) ∧ ((¬ 2 ≤ v1) → ((¬ v1 = 0) → (w_X4_rowOf v3 μ (fun r11 μ10 => w_X4_common_69 P31 (v2 ||| r11) v1 v3 μ10 Q))) ∧ ((v1 = 0) → (w_X4_rowOf v3 μ (fun r13 μ12 => w_X4_common_69 P31 (v2 &&& r13) v1 v3 μ12 Q)))))
def w_X4_common_31 (v1 : Int32) (v2 : Int32) (v3 : Int32) (μ : WS) (Q : Int32 → WS → Prop) : Prop := ∀ P31 : Int32 → Int32 → Int32 → WS → Prop, (∀ (v1 : Int32) (v2 : Int32) (v3 : Int32) (μ : WS), w_X4_common_31b  P31 v1 v2 v3 μ Q → P31 v1 v2 v3 μ) → P31 v1 v2 v3 μ
def w_X4_common_28 (s0 : Int32) (v1 : Int32) (μ : WS) (Q : Int32 → WS → Prop) : Prop := w_X4_common_31 v1 s0 0 μ Q
def w_X4_common (v1 : Int32) (μ : WS) (Q : Int32 → WS → Prop) : Prop := (w_X4_isIn v1 0 2 μ (fun r2 μ1 => ((¬ r2 = 0) → ((¬ v1 = 1) → (w_X4_width μ1 (fun r6 μ5 => w_X4_common_28 ((1 <<< (r6 &&& 31)) - 1) v1 μ5 Q))) ∧ ((v1 = 1) → w_X4_common_28 0 v1 μ1 Q)) ∧ ((r2 = 0) → Q (-1) μ1)))
abbrev rm_X4_common : Room := { frames := 1, cells := 0, slots := 0, locals := 22 }
theorem mf_X4_common : MFact yX4_common 1 rm_X4_common := ⟨by decide +kernel, rfl, rfl⟩
set_option maxHeartbeats 4000000 in
theorem met_X4_common (l : Launch) (D : va_G) (ac : Nat → ClassId) (ad : Nat → Nat) (Ex : Heap → Prop) (hLay : LayOk ad knM) (hEx : ExOk ad knM Ex) (v1 : Int32) (μ : WS) (Q : Int32 → WS → Prop) (h : w_X4_common v1 μ Q) : CMet l yX4_common cX4_common 4 (some .int) rm_X4_common D ac ad knM Ex [.ref (ad 0), .int v1] μ (qI Q) := by
  refine vv_met (lv := [(0, .ref (ad 0)), (1, .int v1)]) (by decide) hLay hEx (Nat.le_of_ble_eq_true rfl) rfl ⟨rfl, rfl⟩ (fun C hC hK hRm hLl hR hM => ?_)
  subst hLl
  have hRo : RoomOk (HPW D ac ad knM Ex (vS C)) (vR C) := HPW.room
  have L78 : ∀ (v1 : Int32) (v2 : Int32) (v3 : Int32) (μ : WS), w_X4_common_78  v1 v2 v3 μ Q → VV C 4 (HPW D ac ad knM Ex (vS C)) (vQ C (QcW D ac ad knM (qI Q)) 0 0 (inLay ad knM)) (μ, ()) 78 [(0, .ref (ad 0)), (1, .int v1), (2, .int v2), (3, .int v3)] [] := by
    intro  v1 v2 v3 μ h
    refine h (fun v1 v2 v3 μ => VV C 4 (HPW D ac ad knM Ex (vS C)) (vQ C (QcW D ac ad knM (qI Q)) 0 0 (inLay ad knM)) (μ, ()) 78 [(0, .ref (ad 0)), (1, .int v1), (2, .int v2), (3, .int v3)] []) ?_
    clear h; intro v1 v2 v3 μ h
    have h78 : ∀ (v1 : Int32) (v2 : Int32) (v3 : Int32) (μ : WS), (fun v1 v2 v3 (μ : WS) => VV C 4 (HPW D ac ad knM Ex (vS C)) (vQ C (QcW D ac ad knM (qI Q)) 0 0 (inLay ad knM)) (μ, ()) 78 [(0, .ref (ad 0)), (1, .int v1), (2, .int v2), (3, .int v3)] []) v1 v2 v3 μ → VV C 4 (HPW D ac ad knM Ex (vS C)) (vQ C (QcW D ac ad knM (qI Q)) 0 0 (inLay ad knM)) (μ, ()) 78 [(0, .ref (ad 0)), (1, .int v1), (2, .int v2), (3, .int v3)] [] := fun _ _ _ _ h => h
    unfold w_X4_common_78b at h
    refine vv_iload_n hC dX4_common_78 rfl 3 rfl ?_
    refine vv_aload_n hC dX4_common_79 rfl 0 rfl ?_
    refine vv_getf hC hR hK fa4_77 0 lm_0 (fm_40 ad _ _ _) dX4_common_80 ?_
    refine vv_sipush hC dX4_common_83 sp_217 ?_
    refine vv_iald hC hR hK 21 lm_21 vin_217_221 dX4_common_86 ?_
    refine vv_icmp_ge (tgt := 115) hC dX4_common_87 rfl (fun c14 => ?_) (fun c14 => ?_)
    · replace h := h.1 c14
      refine vv_iload_n hC dX4_common_115 rfl 2 rfl ?_
      exact vv_iret hC hM dX4_common_116 h
    · replace h := h.2 c14
      refine vv_iload_n hC dX4_common_90 rfl 1 rfl ?_
      refine vv_iconst hC dX4_common_91 ic_2 ?_
      refine vv_icmp_ne (tgt := 115) hC dX4_common_92 rfl (fun c15 => ?_) (fun c15 => ?_)
      · replace h := h.1 c15
        refine vv_iload_n hC dX4_common_115 rfl 2 rfl ?_
        exact vv_iret hC hM dX4_common_116 h
      · replace h := h.2 c15
        refine vv_iload_n hC dX4_common_95 rfl 2 rfl ?_
        refine vv_aload_n hC dX4_common_96 rfl 0 rfl ?_
        refine vv_getf hC hR hK fa4_77 0 lm_0 (fm_40 ad _ _ _) dX4_common_97 ?_
        refine vv_bipush hC dX4_common_100 bp_96 ?_
        refine vv_iconst hC dX4_common_102 ic_3 ?_
        refine vv_iload_n hC dX4_common_103 rfl 3 rfl ?_
        refine vv_imul hC dX4_common_104 ?_
        refine vv_iadd hC dX4_common_105 ?_
        obtain ⟨hin, h⟩ := h
        refine vv_iald hC hR hK 21 lm_21 hin dX4_common_106 ?_
        refine vv_iand hC dX4_common_107 ?_
        refine vv_topi (fun x16 ex16 => ?_)
        replace h := h x16 ex16
        refine vv_istore_n (lv' := [(2, .int x16), (0, .ref (ad 0)), (1, .int v1), (3, .int v3)]) hC dX4_common_108 rfl (by decide) rfl ?_
        refine vv_iinc (pl := 3) (v := v3 + 1) (lv' := [(3, .int (v3 + 1)), (2, .int x16), (0, .ref (ad 0)), (1, .int v1)]) hC dX4_common_109 rfl rfl (by decide) rfl ?_
        refine vv_goto (tgt := 78) hC dX4_common_112 rfl ?_
        refine vv_lv [2, 3, 1, 0] rfl ?_
        exact h78 _ _ _ _ h
  have L76 : ∀ (v1 : Int32) (v2 : Int32) (μ : WS), w_X4_common_76  v1 v2 μ Q → VV C 4 (HPW D ac ad knM Ex (vS C)) (vQ C (QcW D ac ad knM (qI Q)) 0 0 (inLay ad knM)) (μ, ()) 76 [(0, .ref (ad 0)), (1, .int v1), (2, .int v2)] [] := by
    intro  v1 v2 μ h
    unfold w_X4_common_76 at h
    refine vv_iconst hC dX4_common_76 ic_0 ?_
    refine vv_istore_n (lv' := [(3, .int 0), (0, .ref (ad 0)), (1, .int v1), (2, .int v2)]) hC dX4_common_77 rfl (by decide) rfl ?_
    refine vv_lv [1, 2, 3, 0] rfl ?_
    exact L78  _ _ _ _ h
  have L69 : ∀ (P31 : Int32 → Int32 → Int32 → WS → Prop) (h31 : ∀ (v1 : Int32) (v2 : Int32) (v3 : Int32) (μ : WS), P31 v1 v2 v3 μ → VV C 4 (HPW D ac ad knM Ex (vS C)) (vQ C (QcW D ac ad knM (qI Q)) 0 0 (inLay ad knM)) (μ, ()) 31 [(0, .ref (ad 0)), (1, .int v1), (2, .int v2), (3, .int v3)] []) (s0 : Int32) (v1 : Int32) (v3 : Int32) (μ : WS), w_X4_common_69 P31 s0 v1 v3 μ Q → VV C 4 (HPW D ac ad knM Ex (vS C)) (vQ C (QcW D ac ad knM (qI Q)) 0 0 (inLay ad knM)) (μ, ()) 69 [(0, .ref (ad 0)), (1, .int v1), (3, .int v3)] [.int s0] := by
    intro P31 h31 s0 v1 v3 μ h
    unfold w_X4_common_69 at h
    refine vv_istore_n (lv' := [(2, .int s0), (0, .ref (ad 0)), (1, .int v1), (3, .int v3)]) hC dX4_common_69 rfl (by decide) rfl ?_
    refine vv_iinc (pl := 3) (v := v3 + 1) (lv' := [(3, .int (v3 + 1)), (2, .int s0), (0, .ref (ad 0)), (1, .int v1)]) hC dX4_common_70 rfl rfl (by decide) rfl ?_
    refine vv_goto (tgt := 31) hC dX4_common_73 rfl ?_
    refine vv_lv [2, 3, 1, 0] rfl ?_
    exact h31 _ _ _ _ h
  have L31 : ∀ (v1 : Int32) (v2 : Int32) (v3 : Int32) (μ : WS), w_X4_common_31  v1 v2 v3 μ Q → VV C 4 (HPW D ac ad knM Ex (vS C)) (vQ C (QcW D ac ad knM (qI Q)) 0 0 (inLay ad knM)) (μ, ()) 31 [(0, .ref (ad 0)), (1, .int v1), (2, .int v2), (3, .int v3)] [] := by
    intro  v1 v2 v3 μ h
    refine h (fun v1 v2 v3 μ => VV C 4 (HPW D ac ad knM Ex (vS C)) (vQ C (QcW D ac ad knM (qI Q)) 0 0 (inLay ad knM)) (μ, ()) 31 [(0, .ref (ad 0)), (1, .int v1), (2, .int v2), (3, .int v3)] []) ?_
    clear h; intro v1 v2 v3 μ h
    have h31 : ∀ (v1 : Int32) (v2 : Int32) (v3 : Int32) (μ : WS), (fun v1 v2 v3 (μ : WS) => VV C 4 (HPW D ac ad knM Ex (vS C)) (vQ C (QcW D ac ad knM (qI Q)) 0 0 (inLay ad knM)) (μ, ()) 31 [(0, .ref (ad 0)), (1, .int v1), (2, .int v2), (3, .int v3)] []) v1 v2 v3 μ → VV C 4 (HPW D ac ad knM Ex (vS C)) (vQ C (QcW D ac ad knM (qI Q)) 0 0 (inLay ad knM)) (μ, ()) 31 [(0, .ref (ad 0)), (1, .int v1), (2, .int v2), (3, .int v3)] [] := fun _ _ _ _ h => h
    unfold w_X4_common_31b at h
    refine vv_iload_n hC dX4_common_31 rfl 3 rfl ?_
    refine vv_aload_n hC dX4_common_32 rfl 0 rfl ?_
    refine vv_getf hC hR hK fa4_77 0 lm_0 (fm_40 ad _ _ _) dX4_common_33 ?_
    refine vv_sipush hC dX4_common_36 sp_216 ?_
    refine vv_iald hC hR hK 21 lm_21 vin_216_221 dX4_common_39 ?_
    refine vv_icmp_ge (tgt := 76) hC dX4_common_40 rfl (fun c7 => ?_) (fun c7 => ?_)
    · replace h := h.1 c7
      refine vv_lv [0, 1, 2] rfl ?_
      exact L76  _ _ _ h
    · replace h := h.2 c7
      refine vv_iload_n hC dX4_common_43 rfl 1 rfl ?_
      refine vv_iconst hC dX4_common_44 ic_2 ?_
      refine vv_icmp_ge (tgt := 76) hC dX4_common_45 rfl (fun c8 => ?_) (fun c8 => ?_)
      · replace h := h.1 c8
        refine vv_lv [0, 1, 2] rfl ?_
        exact L76  _ _ _ h
      · replace h := h.2 c8
        refine vv_iload_n hC dX4_common_48 rfl 1 rfl ?_
        refine vv_if_ne (tgt := 62) hC dX4_common_49 rfl (fun c9 => ?_) (fun c9 => ?_)
        · replace h := h.1 c9
          refine vv_iload_n hC dX4_common_62 rfl 2 rfl ?_
          refine vv_aload_n hC dX4_common_63 rfl 0 rfl ?_
          refine vv_iload_n hC dX4_common_64 rfl 3 rfl ?_
          refine vv_callVi hC hR hK hRo hRm [.int v3] [.int v2] (met_X4_rowOf (vL C) D ac ad Ex hLay hEx v3 μ _ h) gw4_392 mf_X4_rowOf rfl lm_0 rfl rfl rfl rfl dX4_common_65 (fun r11 μ10 h => ?_)
          refine vv_ior hC dX4_common_68 ?_
          refine vv_lv [0, 1, 3] rfl ?_
          exact L69 _ h31 _ _ _ _ h
        · replace h := h.2 c9
          refine vv_iload_n hC dX4_common_52 rfl 2 rfl ?_
          refine vv_aload_n hC dX4_common_53 rfl 0 rfl ?_
          refine vv_iload_n hC dX4_common_54 rfl 3 rfl ?_
          refine vv_callVi hC hR hK hRo hRm [.int v3] [.int v2] (met_X4_rowOf (vL C) D ac ad Ex hLay hEx v3 μ _ h) gw4_392 mf_X4_rowOf rfl lm_0 rfl rfl rfl rfl dX4_common_55 (fun r13 μ12 h => ?_)
          refine vv_iand hC dX4_common_58 ?_
          refine vv_goto (tgt := 69) hC dX4_common_59 rfl ?_
          refine vv_lv [0, 1, 3] rfl ?_
          exact L69 _ h31 _ _ _ _ h
  have L28 : ∀ (s0 : Int32) (v1 : Int32) (μ : WS), w_X4_common_28  s0 v1 μ Q → VV C 4 (HPW D ac ad knM Ex (vS C)) (vQ C (QcW D ac ad knM (qI Q)) 0 0 (inLay ad knM)) (μ, ()) 28 [(0, .ref (ad 0)), (1, .int v1)] [.int s0] := by
    intro  s0 v1 μ h
    unfold w_X4_common_28 at h
    refine vv_istore_n (lv' := [(2, .int s0), (0, .ref (ad 0)), (1, .int v1)]) hC dX4_common_28 rfl (by decide) rfl ?_
    refine vv_iconst hC dX4_common_29 ic_0 ?_
    refine vv_istore_n (lv' := [(3, .int 0), (2, .int s0), (0, .ref (ad 0)), (1, .int v1)]) hC dX4_common_30 rfl (by decide) rfl ?_
    refine vv_lv [2, 3, 1, 0] rfl ?_
    exact L31  _ _ _ _ h
  unfold w_X4_common at h
  refine vv_iload_n hC dX4_common_0 rfl 1 rfl ?_
  refine vv_iconst hC dX4_common_1 ic_0 ?_
  refine vv_iconst hC dX4_common_2 ic_2 ?_
  refine vv_callSi hC hR hK hRo hRm [.int v1, .int 0, .int 2] [] (met_X4_isIn (vL C) D ac ad Ex hLay hEx v1 0 2 μ _ h) gw4_345 mf_X4_isIn rfl rfl rfl dX4_common_3 (fun r2 μ1 h => ?_)
  refine vv_if_ne (tgt := 11) hC dX4_common_6 rfl (fun c3 => ?_) (fun c3 => ?_)
  · replace h := h.1 c3
    refine vv_iload_n hC dX4_common_11 rfl 1 rfl ?_
    refine vv_iconst hC dX4_common_12 ic_1 ?_
    refine vv_icmp_ne (tgt := 20) hC dX4_common_13 rfl (fun c4 => ?_) (fun c4 => ?_)
    · replace h := h.1 c4
      refine vv_iconst hC dX4_common_20 ic_1 ?_
      refine vv_aload_n hC dX4_common_21 rfl 0 rfl ?_
      refine vv_callVi hC hR hK hRo hRm [] [.int 1] (met_X4_width (vL C) D ac ad Ex hLay hEx  μ1 _ h) gw4_342 mf_X4_width rfl lm_0 rfl rfl rfl rfl dX4_common_22 (fun r6 μ5 h => ?_)
      refine vv_ishl hC dX4_common_25 ?_
      refine vv_iconst hC dX4_common_26 ic_1 ?_
      refine vv_isub hC dX4_common_27 ?_
      exact L28  _ _ _ h
    · replace h := h.2 c4
      refine vv_iconst hC dX4_common_16 ic_0 ?_
      refine vv_goto (tgt := 28) hC dX4_common_17 rfl ?_
      exact L28  _ _ _ h
  · replace h := h.2 c3
    refine vv_iconst hC dX4_common_9 ic_m1 ?_
    exact vv_iret hC hM dX4_common_10 h
def w_X4_alike_62 (P15 : Int32 → Int32 → Int32 → Int32 → WS → Prop) (v1 : Int32) (v2 : Int32) (v3 : Int32) (v4 : Int32) (μ : WS) (Q : Int32 → WS → Prop) : Prop := P15 v1 v2 v3 (v4 + 1) μ
def w_X4_alike_51 (P15 : Int32 → Int32 → Int32 → Int32 → WS → Prop) (s0 : Int32) (v1 : Int32) (v2 : Int32) (v3 : Int32) (v4 : Int32) (μ : WS) (Q : Int32 → WS → Prop) : Prop := ((¬ s0 = v1) → w_X4_alike_62 P15 v1 v2 v3 v4 μ Q) ∧ ((s0 = v1) → (∀ x13 : Int32, x13 = v3 ||| (1 <<< (v4 &&& 31)) → w_X4_alike_62 P15 v1 v2 x13 v4 μ Q))
def w_X4_alike_15b (P15 : Int32 → Int32 → Int32 → Int32 → WS → Prop) (v1 : Int32) (v2 : Int32) (v3 : Int32) (v4 : Int32) (μ : WS) (Q : Int32 → WS → Prop) : Prop := ((μ.1 21 216 ≤ v4) → Q v3 μ) ∧ ((¬ μ.1 21 216 ≤ v4) → ((v2 = 0) → (w_X4_rowOf v4 μ (fun r7 μ6 => w_X4_alike_51 P15 r7 v1 v2 v3 v4 μ6 Q))) ∧ ((¬ v2 = 0) → (w_X4_rowOf v4 μ (fun r9 μ8 => (w_X4_turnedRow r9 μ8 (fun r11 μ10 => w_X4_alike_51 P15 r11 v1 v2 v3 v4 μ10 Q))))))
def w_X4_alike_15 (v1 : Int32) (v2 : Int32) (v3 : Int32) (v4 : Int32) (μ : WS) (Q : Int32 → WS → Prop) : Prop := ∀ P15 : Int32 → Int32 → Int32 → Int32 → WS → Prop, (∀ (v1 : Int32) (v2 : Int32) (v3 : Int32) (v4 : Int32) (μ : WS), w_X4_alike_15b  P15 v1 v2 v3 v4 μ Q → P15 v1 v2 v3 v4 μ) → P15 v1 v2 v3 v4 μ
def w_X4_alike (v1 : Int32) (v2 : Int32) (μ : WS) (Q : Int32 → WS → Prop) : Prop := (w_X4_isRow v1 μ (fun r2 μ1 => ((¬ r2 = 0) → w_X4_alike_15 v1 v2 0 0 μ1 Q) ∧ ((r2 = 0) → Q (-1) μ1)))
abbrev rm_X4_alike : Room := { frames := 2, cells := 0, slots := 0, locals := 43 }
theorem mf_X4_alike : MFact yX4_alike 2 rm_X4_alike := ⟨by decide +kernel, rfl, rfl⟩
set_option maxHeartbeats 4000000 in
theorem met_X4_alike (l : Launch) (D : va_G) (ac : Nat → ClassId) (ad : Nat → Nat) (Ex : Heap → Prop) (hLay : LayOk ad knM) (hEx : ExOk ad knM Ex) (v1 : Int32) (v2 : Int32) (μ : WS) (Q : Int32 → WS → Prop) (h : w_X4_alike v1 v2 μ Q) : CMet l yX4_alike cX4_alike 5 (some .int) rm_X4_alike D ac ad knM Ex [.ref (ad 0), .int v1, .int v2] μ (qI Q) := by
  refine vv_met (lv := [(0, .ref (ad 0)), (1, .int v1), (2, .int v2)]) (by decide) hLay hEx (Nat.le_of_ble_eq_true rfl) rfl ⟨rfl, rfl⟩ (fun C hC hK hRm hLl hR hM => ?_)
  subst hLl
  have hRo : RoomOk (HPW D ac ad knM Ex (vS C)) (vR C) := HPW.room
  have L62 : ∀ (P15 : Int32 → Int32 → Int32 → Int32 → WS → Prop) (h15 : ∀ (v1 : Int32) (v2 : Int32) (v3 : Int32) (v4 : Int32) (μ : WS), P15 v1 v2 v3 v4 μ → VV C 5 (HPW D ac ad knM Ex (vS C)) (vQ C (QcW D ac ad knM (qI Q)) 0 0 (inLay ad knM)) (μ, ()) 15 [(0, .ref (ad 0)), (1, .int v1), (2, .int v2), (3, .int v3), (4, .int v4)] []) (v1 : Int32) (v2 : Int32) (v3 : Int32) (v4 : Int32) (μ : WS), w_X4_alike_62 P15 v1 v2 v3 v4 μ Q → VV C 5 (HPW D ac ad knM Ex (vS C)) (vQ C (QcW D ac ad knM (qI Q)) 0 0 (inLay ad knM)) (μ, ()) 62 [(0, .ref (ad 0)), (1, .int v1), (2, .int v2), (3, .int v3), (4, .int v4)] [] := by
    intro P15 h15 v1 v2 v3 v4 μ h
    unfold w_X4_alike_62 at h
    refine vv_iinc (pl := 4) (v := v4 + 1) (lv' := [(4, .int (v4 + 1)), (0, .ref (ad 0)), (1, .int v1), (2, .int v2), (3, .int v3)]) hC dX4_alike_62 rfl rfl (by decide) rfl ?_
    refine vv_goto (tgt := 15) hC dX4_alike_65 rfl ?_
    refine vv_lv [1, 2, 3, 4, 0] rfl ?_
    exact h15 _ _ _ _ _ h
  have L51 : ∀ (P15 : Int32 → Int32 → Int32 → Int32 → WS → Prop) (h15 : ∀ (v1 : Int32) (v2 : Int32) (v3 : Int32) (v4 : Int32) (μ : WS), P15 v1 v2 v3 v4 μ → VV C 5 (HPW D ac ad knM Ex (vS C)) (vQ C (QcW D ac ad knM (qI Q)) 0 0 (inLay ad knM)) (μ, ()) 15 [(0, .ref (ad 0)), (1, .int v1), (2, .int v2), (3, .int v3), (4, .int v4)] []) (s0 : Int32) (v1 : Int32) (v2 : Int32) (v3 : Int32) (v4 : Int32) (μ : WS), w_X4_alike_51 P15 s0 v1 v2 v3 v4 μ Q → VV C 5 (HPW D ac ad knM Ex (vS C)) (vQ C (QcW D ac ad knM (qI Q)) 0 0 (inLay ad knM)) (μ, ()) 51 [(0, .ref (ad 0)), (1, .int v1), (2, .int v2), (3, .int v3), (4, .int v4)] [.int s0] := by
    intro P15 h15 s0 v1 v2 v3 v4 μ h
    unfold w_X4_alike_51 at h
    refine vv_iload_n hC dX4_alike_51 rfl 1 rfl ?_
    refine vv_icmp_ne (tgt := 62) hC dX4_alike_52 rfl (fun c12 => ?_) (fun c12 => ?_)
    · replace h := h.1 c12
      exact L62 _ h15 _ _ _ _ _ h
    · replace h := h.2 c12
      refine vv_iload_n hC dX4_alike_55 rfl 3 rfl ?_
      refine vv_iconst hC dX4_alike_56 ic_1 ?_
      refine vv_iload hC dX4_alike_57 4 rfl ?_
      refine vv_ishl hC dX4_alike_59 ?_
      refine vv_ior hC dX4_alike_60 ?_
      refine vv_topi (fun x13 ex13 => ?_)
      replace h := h x13 ex13
      refine vv_istore_n (lv' := [(3, .int x13), (0, .ref (ad 0)), (1, .int v1), (2, .int v2), (4, .int v4)]) hC dX4_alike_61 rfl (by decide) rfl ?_
      refine vv_lv [1, 2, 3, 0, 4] rfl ?_
      exact L62 _ h15 _ _ _ _ _ h
  have L15 : ∀ (v1 : Int32) (v2 : Int32) (v3 : Int32) (v4 : Int32) (μ : WS), w_X4_alike_15  v1 v2 v3 v4 μ Q → VV C 5 (HPW D ac ad knM Ex (vS C)) (vQ C (QcW D ac ad knM (qI Q)) 0 0 (inLay ad knM)) (μ, ()) 15 [(0, .ref (ad 0)), (1, .int v1), (2, .int v2), (3, .int v3), (4, .int v4)] [] := by
    intro  v1 v2 v3 v4 μ h
    refine h (fun v1 v2 v3 v4 μ => VV C 5 (HPW D ac ad knM Ex (vS C)) (vQ C (QcW D ac ad knM (qI Q)) 0 0 (inLay ad knM)) (μ, ()) 15 [(0, .ref (ad 0)), (1, .int v1), (2, .int v2), (3, .int v3), (4, .int v4)] []) ?_
    clear h; intro v1 v2 v3 v4 μ h
    have h15 : ∀ (v1 : Int32) (v2 : Int32) (v3 : Int32) (v4 : Int32) (μ : WS), (fun v1 v2 v3 v4 (μ : WS) => VV C 5 (HPW D ac ad knM Ex (vS C)) (vQ C (QcW D ac ad knM (qI Q)) 0 0 (inLay ad knM)) (μ, ()) 15 [(0, .ref (ad 0)), (1, .int v1), (2, .int v2), (3, .int v3), (4, .int v4)] []) v1 v2 v3 v4 μ → VV C 5 (HPW D ac ad knM Ex (vS C)) (vQ C (QcW D ac ad knM (qI Q)) 0 0 (inLay ad knM)) (μ, ()) 15 [(0, .ref (ad 0)), (1, .int v1), (2, .int v2), (3, .int v3), (4, .int v4)] [] := fun _ _ _ _ _ h => h
    unfold w_X4_alike_15b at h
    refine vv_iload hC dX4_alike_15 4 rfl ?_
    refine vv_aload_n hC dX4_alike_17 rfl 0 rfl ?_
    refine vv_getf hC hR hK fa4_77 0 lm_0 (fm_40 ad _ _ _) dX4_alike_18 ?_
    refine vv_sipush hC dX4_alike_21 sp_216 ?_
    refine vv_iald hC hR hK 21 lm_21 vin_216_221 dX4_alike_24 ?_
    refine vv_icmp_ge (tgt := 68) hC dX4_alike_25 rfl (fun c4 => ?_) (fun c4 => ?_)
    · replace h := h.1 c4
      refine vv_iload_n hC dX4_alike_68 rfl 3 rfl ?_
      exact vv_iret hC hM dX4_alike_69 h
    · replace h := h.2 c4
      refine vv_iload_n hC dX4_alike_28 rfl 2 rfl ?_
      refine vv_if_eq (tgt := 45) hC dX4_alike_29 rfl (fun c5 => ?_) (fun c5 => ?_)
      · replace h := h.1 c5
        refine vv_aload_n hC dX4_alike_45 rfl 0 rfl ?_
        refine vv_iload hC dX4_alike_46 4 rfl ?_
        refine vv_callVi hC hR hK hRo hRm [.int v4] [] (met_X4_rowOf (vL C) D ac ad Ex hLay hEx v4 μ _ h) gw4_392 mf_X4_rowOf rfl lm_0 rfl rfl rfl rfl dX4_alike_48 (fun r7 μ6 h => ?_)
        exact L51 _ h15 _ _ _ _ _ _ h
      · replace h := h.2 c5
        refine vv_aload_n hC dX4_alike_32 rfl 0 rfl ?_
        refine vv_aload_n hC dX4_alike_33 rfl 0 rfl ?_
        refine vv_iload hC dX4_alike_34 4 rfl ?_
        refine vv_callVi hC hR hK hRo hRm [.int v4] [.ref (ad 0)] (met_X4_rowOf (vL C) D ac ad Ex hLay hEx v4 μ _ h) gw4_392 mf_X4_rowOf rfl lm_0 rfl rfl rfl rfl dX4_alike_36 (fun r9 μ8 h => ?_)
        refine vv_callVi hC hR hK hRo hRm [.int r9] [] (met_X4_turnedRow (vL C) D ac ad Ex hLay hEx r9 μ8 _ h) gw4_349 mf_X4_turnedRow rfl lm_0 rfl rfl rfl rfl dX4_alike_39 (fun r11 μ10 h => ?_)
        refine vv_goto (tgt := 51) hC dX4_alike_42 rfl ?_
        exact L51 _ h15 _ _ _ _ _ _ h
  unfold w_X4_alike at h
  refine vv_aload_n hC dX4_alike_0 rfl 0 rfl ?_
  refine vv_iload_n hC dX4_alike_1 rfl 1 rfl ?_
  refine vv_callVi hC hR hK hRo hRm [.int v1] [] (met_X4_isRow (vL C) D ac ad Ex hLay hEx v1 μ _ h) gw4_358 mf_X4_isRow rfl lm_0 rfl rfl rfl rfl dX4_alike_2 (fun r2 μ1 h => ?_)
  refine vv_if_ne (tgt := 10) hC dX4_alike_5 rfl (fun c3 => ?_) (fun c3 => ?_)
  · replace h := h.1 c3
    refine vv_iconst hC dX4_alike_10 ic_0 ?_
    refine vv_istore_n (lv' := [(3, .int 0), (0, .ref (ad 0)), (1, .int v1), (2, .int v2)]) hC dX4_alike_11 rfl (by decide) rfl ?_
    refine vv_iconst hC dX4_alike_12 ic_0 ?_
    refine vv_istore (lv' := [(4, .int 0), (3, .int 0), (0, .ref (ad 0)), (1, .int v1), (2, .int v2)]) hC dX4_alike_13 (by decide) rfl ?_
    refine vv_lv [2, 3, 4, 1, 0] rfl ?_
    exact L15  _ _ _ _ _ h
  · replace h := h.2 c3
    refine vv_iconst hC dX4_alike_8 ic_m1 ?_
    exact vv_iret hC hM dX4_alike_9 h
def w_X4_ways (μ : WS) (Q : Int32 → WS → Prop) : Prop := (vp_in (μ.1 0 29) 2 ∧ Q (4 * (μ.1 5 (μ.1 0 29).toNatClampNeg)) μ)
abbrev rm_X4_ways : Room := { frames := 0, cells := 0, slots := 0, locals := 0 }
theorem mf_X4_ways : MFact yX4_ways 0 rm_X4_ways := ⟨by decide +kernel, rfl, rfl⟩
set_option maxHeartbeats 4000000 in
theorem met_X4_ways (l : Launch) (D : va_G) (ac : Nat → ClassId) (ad : Nat → Nat) (Ex : Heap → Prop) (hLay : LayOk ad knM) (hEx : ExOk ad knM Ex) (μ : WS) (Q : Int32 → WS → Prop) (h : w_X4_ways  μ Q) : CMet l yX4_ways cX4_ways 1 (some .int) rm_X4_ways D ac ad knM Ex [.ref (ad 0)] μ (qI Q) := by
  refine vv_met (lv := [(0, .ref (ad 0))]) (by decide) hLay hEx (Nat.le_of_ble_eq_true rfl) rfl ⟨rfl, rfl⟩ (fun C hC hK hRm hLl hR hM => ?_)
  subst hLl
  have hRo : RoomOk (HPW D ac ad knM Ex (vS C)) (vR C) := HPW.room
  unfold w_X4_ways at h
  refine vv_iconst hC dX4_ways_0 ic_4 ?_
  refine vv_aload_n hC dX4_ways_1 rfl 0 rfl ?_
  refine vv_getf hC hR hK fa4_27 0 lm_0 (fm_13 ad _ _ _) dX4_ways_2 ?_
  refine vv_aload_n hC dX4_ways_5 rfl 0 rfl ?_
  refine vv_getf hC hR hK fa4_250 0 lm_0 (fm_29 ad _ _ _) dX4_ways_6 ?_
  obtain ⟨hin, h⟩ := h
  refine vv_iald hC hR hK 5 lm_5 hin dX4_ways_9 ?_
  refine vv_imul hC dX4_ways_10 ?_
  exact vv_iret hC hM dX4_ways_11 h
def w_X4_layWays_171 (P84 : Int32 → Int32 → Int32 → WS → Prop) (P92 : Int32 → Int32 → Int32 → Int32 → WS → Prop) (P116 : Int32 → Int32 → Int32 → Int32 → Int32 → Int32 → WS → Prop) (v1 : Int32) (v2 : Int32) (v3 : Int32) (v4 : Int32) (v5 : Int32) (v6 : Int32) (μ : WS) (Q : WS → Prop) : Prop := P116 v1 v2 v3 v4 v5 (v6 + 1) μ
def w_X4_layWays_116b (P84 : Int32 → Int32 → Int32 → WS → Prop) (P92 : Int32 → Int32 → Int32 → Int32 → WS → Prop) (P116 : Int32 → Int32 → Int32 → Int32 → Int32 → Int32 → WS → Prop) (v1 : Int32) (v2 : Int32) (v3 : Int32) (v4 : Int32) (v5 : Int32) (v6 : Int32) (μ : WS) (Q : WS → Prop) : Prop := (w_X4_ways μ (fun r17 μ16 => ((r17 ≤ v6) → (vp_in ((4096 * v3) + v4) 20480 ∧ (∀ μ19 : WS, μ19 = wset μ16 28 ((4096 * v3) + v4).toNatClampNeg v5 → P92 v1 v2 v3 (v4 + 1) μ19))) ∧ ((¬ r17 ≤ v6) → (vp_in ((16 * v4) + v6) 65536 ∧ (vp_in ((4096 * (v3 - 1)) + (μ16.1 29 ((16 * v4) + v6).toNatClampNeg)) 20480 ∧ (∀ x20 : Int32, x20 = ((μ16.1 28 ((4096 * (v3 - 1)) + (μ16.1 29 ((16 * v4) + v6).toNatClampNeg)).toNatClampNeg) + 1) + (v6 - v6 / 4 * 4) → ((v5 ≤ x20) → w_X4_layWays_171 P84 P92 P116 v1 v2 v3 v4 v5 v6 μ16 Q) ∧ ((¬ v5 ≤ x20) → w_X4_layWays_171 P84 P92 P116 v1 v2 v3 v4 x20 v6 μ16 Q)))))))
def w_X4_layWays_116 (P84 : Int32 → Int32 → Int32 → WS → Prop) (P92 : Int32 → Int32 → Int32 → Int32 → WS → Prop) (v1 : Int32) (v2 : Int32) (v3 : Int32) (v4 : Int32) (v5 : Int32) (v6 : Int32) (μ : WS) (Q : WS → Prop) : Prop := ∀ P116 : Int32 → Int32 → Int32 → Int32 → Int32 → Int32 → WS → Prop, (∀ (v1 : Int32) (v2 : Int32) (v3 : Int32) (v4 : Int32) (v5 : Int32) (v6 : Int32) (μ : WS), w_X4_layWays_116b P84 P92 P116 v1 v2 v3 v4 v5 v6 μ Q → P116 v1 v2 v3 v4 v5 v6 μ) → P116 v1 v2 v3 v4 v5 v6 μ
def w_X4_layWays_111 (P84 : Int32 → Int32 → Int32 → WS → Prop) (P92 : Int32 → Int32 → Int32 → Int32 → WS → Prop) (s0 : Int32) (v1 : Int32) (v2 : Int32) (v3 : Int32) (v4 : Int32) (μ : WS) (Q : WS → Prop) : Prop := w_X4_layWays_116 P84 P92 v1 v2 v3 v4 s0 0 μ Q
def w_X4_layWays_92b (P84 : Int32 → Int32 → Int32 → WS → Prop) (P92 : Int32 → Int32 → Int32 → Int32 → WS → Prop) (v1 : Int32) (v2 : Int32) (v3 : Int32) (v4 : Int32) (μ : WS) (Q : WS → Prop) : Prop := ((v2 ≤ v4) → P84 v1 v2 (v3 + 1) μ) ∧ ((¬ v2 ≤ v4) → ((¬ v4 = v1) → w_X4_layWays_111 P84 P92 1000000 v1 v2 v3 v4 μ Q) ∧ ((v4 = v1) → w_X4_layWays_111 P84 P92 0 v1 v2 v3 v4 μ Q))
def w_X4_layWays_92 (P84 : Int32 → Int32 → Int32 → WS → Prop) (v1 : Int32) (v2 : Int32) (v3 : Int32) (v4 : Int32) (μ : WS) (Q : WS → Prop) : Prop := ∀ P92 : Int32 → Int32 → Int32 → Int32 → WS → Prop, (∀ (v1 : Int32) (v2 : Int32) (v3 : Int32) (v4 : Int32) (μ : WS), w_X4_layWays_92b P84 P92 v1 v2 v3 v4 μ Q → P92 v1 v2 v3 v4 μ) → P92 v1 v2 v3 v4 μ
def w_X4_layWays_84b (P84 : Int32 → Int32 → Int32 → WS → Prop) (v1 : Int32) (v2 : Int32) (v3 : Int32) (μ : WS) (Q : WS → Prop) : Prop := ((4 < v3) → Q μ) ∧ ((¬ 4 < v3) → w_X4_layWays_92 P84 v1 v2 v3 0 μ Q)
def w_X4_layWays_84 (v1 : Int32) (v2 : Int32) (v3 : Int32) (μ : WS) (Q : WS → Prop) : Prop := ∀ P84 : Int32 → Int32 → Int32 → WS → Prop, (∀ (v1 : Int32) (v2 : Int32) (v3 : Int32) (μ : WS), w_X4_layWays_84b  P84 v1 v2 v3 μ Q → P84 v1 v2 v3 μ) → P84 v1 v2 v3 μ
def w_X4_layWays_75 (P9 : Int32 → Int32 → Int32 → WS → Prop) (s0 : Int32) (s1 : Int32) (v1 : Int32) (v2 : Int32) (v3 : Int32) (μ : WS) (Q : WS → Prop) : Prop := (vp_in s1 20480 ∧ (∀ μ12 : WS, μ12 = wset μ 28 s1.toNatClampNeg s0 → P9 v1 v2 (v3 + 1) μ12))
def w_X4_layWays_17b (P9 : Int32 → Int32 → Int32 → WS → Prop) (P17 : Int32 → Int32 → Int32 → Int32 → WS → Prop) (v1 : Int32) (v2 : Int32) (v3 : Int32) (v4 : Int32) (μ : WS) (Q : WS → Prop) : Prop := (w_X4_ways μ (fun r6 μ5 => ((r6 ≤ v4) → ((¬ v3 = v1) → w_X4_layWays_75 P9 1000000 v3 v1 v2 v3 μ5 Q) ∧ ((v3 = v1) → w_X4_layWays_75 P9 0 v3 v1 v2 v3 μ5 Q)) ∧ ((¬ r6 ≤ v4) → (w_X4_castOf v3 (v4 / 4) (v4 - v4 / 4 * 4) 0 μ5 (fun r10 μ9 => (vp_in ((16 * v3) + v4) 65536 ∧ (∀ μ11 : WS, μ11 = wset μ9 29 ((16 * v3) + v4).toNatClampNeg r10 → P17 v1 v2 v3 (v4 + 1) μ11)))))))
def w_X4_layWays_17 (P9 : Int32 → Int32 → Int32 → WS → Prop) (v1 : Int32) (v2 : Int32) (v3 : Int32) (v4 : Int32) (μ : WS) (Q : WS → Prop) : Prop := ∀ P17 : Int32 → Int32 → Int32 → Int32 → WS → Prop, (∀ (v1 : Int32) (v2 : Int32) (v3 : Int32) (v4 : Int32) (μ : WS), w_X4_layWays_17b P9 P17 v1 v2 v3 v4 μ Q → P17 v1 v2 v3 v4 μ) → P17 v1 v2 v3 v4 μ
def w_X4_layWays_9b (P9 : Int32 → Int32 → Int32 → WS → Prop) (v1 : Int32) (v2 : Int32) (v3 : Int32) (μ : WS) (Q : WS → Prop) : Prop := ((v2 ≤ v3) → w_X4_layWays_84 v1 v2 1 μ Q) ∧ ((¬ v2 ≤ v3) → w_X4_layWays_17 P9 v1 v2 v3 0 μ Q)
def w_X4_layWays_9 (v1 : Int32) (v2 : Int32) (v3 : Int32) (μ : WS) (Q : WS → Prop) : Prop := ∀ P9 : Int32 → Int32 → Int32 → WS → Prop, (∀ (v1 : Int32) (v2 : Int32) (v3 : Int32) (μ : WS), w_X4_layWays_9b  P9 v1 v2 v3 μ Q → P9 v1 v2 v3 μ) → P9 v1 v2 v3 μ
def w_X4_layWays (v1 : Int32) (μ : WS) (Q : WS → Prop) : Prop := (w_X4_width μ (fun r2 μ1 => (∀ x3 : Int32, x3 = 1 <<< (r2 &&& 31) → w_X4_layWays_9 v1 x3 0 μ1 Q)))
abbrev rm_X4_layWays : Room := { frames := 3, cells := 0, slots := 0, locals := 74 }
theorem mf_X4_layWays : MFact yX4_layWays 1 rm_X4_layWays := ⟨by decide +kernel, rfl, rfl⟩
set_option maxHeartbeats 4000000 in
theorem met_X4_layWays (l : Launch) (D : va_G) (ac : Nat → ClassId) (ad : Nat → Nat) (Ex : Heap → Prop) (hLay : LayOk ad knM) (hEx : ExOk ad knM Ex) (v1 : Int32) (μ : WS) (Q : WS → Prop) (h : w_X4_layWays v1 μ Q) : CMet l yX4_layWays cX4_layWays 8 none rm_X4_layWays D ac ad knM Ex [.ref (ad 0), .int v1] μ (qV Q) := by
  refine vv_met (lv := [(0, .ref (ad 0)), (1, .int v1)]) (by decide) hLay hEx (Nat.le_of_ble_eq_true rfl) rfl ⟨rfl, rfl⟩ (fun C hC hK hRm hLl hR hM => ?_)
  subst hLl
  have hRo : RoomOk (HPW D ac ad knM Ex (vS C)) (vR C) := HPW.room
  have L171 : ∀ (P84 : Int32 → Int32 → Int32 → WS → Prop) (h84 : ∀ (v1 : Int32) (v2 : Int32) (v3 : Int32) (μ : WS), P84 v1 v2 v3 μ → VV C 8 (HPW D ac ad knM Ex (vS C)) (vQ C (QcW D ac ad knM (qV Q)) 0 0 (inLay ad knM)) (μ, ()) 84 [(0, .ref (ad 0)), (1, .int v1), (2, .int v2), (3, .int v3)] []) (P92 : Int32 → Int32 → Int32 → Int32 → WS → Prop) (h92 : ∀ (v1 : Int32) (v2 : Int32) (v3 : Int32) (v4 : Int32) (μ : WS), P92 v1 v2 v3 v4 μ → VV C 8 (HPW D ac ad knM Ex (vS C)) (vQ C (QcW D ac ad knM (qV Q)) 0 0 (inLay ad knM)) (μ, ()) 92 [(0, .ref (ad 0)), (1, .int v1), (2, .int v2), (3, .int v3), (4, .int v4)] []) (P116 : Int32 → Int32 → Int32 → Int32 → Int32 → Int32 → WS → Prop) (h116 : ∀ (v1 : Int32) (v2 : Int32) (v3 : Int32) (v4 : Int32) (v5 : Int32) (v6 : Int32) (μ : WS), P116 v1 v2 v3 v4 v5 v6 μ → VV C 8 (HPW D ac ad knM Ex (vS C)) (vQ C (QcW D ac ad knM (qV Q)) 0 0 (inLay ad knM)) (μ, ()) 116 [(0, .ref (ad 0)), (1, .int v1), (2, .int v2), (3, .int v3), (4, .int v4), (5, .int v5), (6, .int v6)] []) (v1 : Int32) (v2 : Int32) (v3 : Int32) (v4 : Int32) (v5 : Int32) (v6 : Int32) (μ : WS), w_X4_layWays_171 P84 P92 P116 v1 v2 v3 v4 v5 v6 μ Q → VV C 8 (HPW D ac ad knM Ex (vS C)) (vQ C (QcW D ac ad knM (qV Q)) 0 0 (inLay ad knM)) (μ, ()) 171 [(0, .ref (ad 0)), (1, .int v1), (2, .int v2), (3, .int v3), (4, .int v4), (5, .int v5), (6, .int v6)] [] := by
    intro P84 h84 P92 h92 P116 h116 v1 v2 v3 v4 v5 v6 μ h
    unfold w_X4_layWays_171 at h
    refine vv_iinc (pl := 6) (v := v6 + 1) (lv' := [(6, .int (v6 + 1)), (0, .ref (ad 0)), (1, .int v1), (2, .int v2), (3, .int v3), (4, .int v4), (5, .int v5)]) hC dX4_layWays_171 rfl rfl (by decide) rfl ?_
    refine vv_goto (tgt := 116) hC dX4_layWays_174 rfl ?_
    refine vv_lv [1, 2, 3, 4, 5, 6, 0] rfl ?_
    exact h116 _ _ _ _ _ _ _ h
  have L116 : ∀ (P84 : Int32 → Int32 → Int32 → WS → Prop) (h84 : ∀ (v1 : Int32) (v2 : Int32) (v3 : Int32) (μ : WS), P84 v1 v2 v3 μ → VV C 8 (HPW D ac ad knM Ex (vS C)) (vQ C (QcW D ac ad knM (qV Q)) 0 0 (inLay ad knM)) (μ, ()) 84 [(0, .ref (ad 0)), (1, .int v1), (2, .int v2), (3, .int v3)] []) (P92 : Int32 → Int32 → Int32 → Int32 → WS → Prop) (h92 : ∀ (v1 : Int32) (v2 : Int32) (v3 : Int32) (v4 : Int32) (μ : WS), P92 v1 v2 v3 v4 μ → VV C 8 (HPW D ac ad knM Ex (vS C)) (vQ C (QcW D ac ad knM (qV Q)) 0 0 (inLay ad knM)) (μ, ()) 92 [(0, .ref (ad 0)), (1, .int v1), (2, .int v2), (3, .int v3), (4, .int v4)] []) (v1 : Int32) (v2 : Int32) (v3 : Int32) (v4 : Int32) (v5 : Int32) (v6 : Int32) (μ : WS), w_X4_layWays_116 P84 P92 v1 v2 v3 v4 v5 v6 μ Q → VV C 8 (HPW D ac ad knM Ex (vS C)) (vQ C (QcW D ac ad knM (qV Q)) 0 0 (inLay ad knM)) (μ, ()) 116 [(0, .ref (ad 0)), (1, .int v1), (2, .int v2), (3, .int v3), (4, .int v4), (5, .int v5), (6, .int v6)] [] := by
    intro P84 h84 P92 h92 v1 v2 v3 v4 v5 v6 μ h
    refine h (fun v1 v2 v3 v4 v5 v6 μ => VV C 8 (HPW D ac ad knM Ex (vS C)) (vQ C (QcW D ac ad knM (qV Q)) 0 0 (inLay ad knM)) (μ, ()) 116 [(0, .ref (ad 0)), (1, .int v1), (2, .int v2), (3, .int v3), (4, .int v4), (5, .int v5), (6, .int v6)] []) ?_
    clear h; intro v1 v2 v3 v4 v5 v6 μ h
    have h116 : ∀ (v1 : Int32) (v2 : Int32) (v3 : Int32) (v4 : Int32) (v5 : Int32) (v6 : Int32) (μ : WS), (fun v1 v2 v3 v4 v5 v6 (μ : WS) => VV C 8 (HPW D ac ad knM Ex (vS C)) (vQ C (QcW D ac ad knM (qV Q)) 0 0 (inLay ad knM)) (μ, ()) 116 [(0, .ref (ad 0)), (1, .int v1), (2, .int v2), (3, .int v3), (4, .int v4), (5, .int v5), (6, .int v6)] []) v1 v2 v3 v4 v5 v6 μ → VV C 8 (HPW D ac ad knM Ex (vS C)) (vQ C (QcW D ac ad knM (qV Q)) 0 0 (inLay ad knM)) (μ, ()) 116 [(0, .ref (ad 0)), (1, .int v1), (2, .int v2), (3, .int v3), (4, .int v4), (5, .int v5), (6, .int v6)] [] := fun _ _ _ _ _ _ _ h => h
    unfold w_X4_layWays_116b at h
    refine vv_iload hC dX4_layWays_116 6 rfl ?_
    refine vv_aload_n hC dX4_layWays_118 rfl 0 rfl ?_
    refine vv_callVi hC hR hK hRo hRm [] [.int v6] (met_X4_ways (vL C) D ac ad Ex hLay hEx  μ _ h) gw4_413 mf_X4_ways rfl lm_0 rfl rfl rfl rfl dX4_layWays_119 (fun r17 μ16 h => ?_)
    refine vv_icmp_ge (tgt := 177) hC dX4_layWays_122 rfl (fun c18 => ?_) (fun c18 => ?_)
    · replace h := h.1 c18
      refine vv_aload_n hC dX4_layWays_177 rfl 0 rfl ?_
      refine vv_getf hC hR hK fa4_98 0 lm_0 (fm_50 ad _ _ _) dX4_layWays_178 ?_
      refine vv_sipush hC dX4_layWays_181 sp_4096 ?_
      refine vv_iload_n hC dX4_layWays_184 rfl 3 rfl ?_
      refine vv_imul hC dX4_layWays_185 ?_
      refine vv_iload hC dX4_layWays_186 4 rfl ?_
      refine vv_iadd hC dX4_layWays_188 ?_
      refine vv_iload hC dX4_layWays_189 5 rfl ?_
      obtain ⟨hin, h⟩ := h
      refine vv_iast hC hR hK 28 lm_28 hin dX4_layWays_191 ?_
      refine vv_st (fun y e => ?_)
      obtain ⟨μ19, _⟩ := y
      have eμ19 := congrArg Prod.fst e
      clear e
      replace h := h μ19 eμ19
      refine vv_iinc (pl := 4) (v := v4 + 1) (lv' := [(4, .int (v4 + 1)), (0, .ref (ad 0)), (1, .int v1), (2, .int v2), (3, .int v3), (5, .int v5), (6, .int v6)]) hC dX4_layWays_192 rfl rfl (by decide) rfl ?_
      refine vv_goto (tgt := 92) hC dX4_layWays_195 rfl ?_
      refine vv_lv [1, 2, 3, 4, 0] rfl ?_
      exact h92 _ _ _ _ _ h
    · replace h := h.2 c18
      refine vv_aload_n hC dX4_layWays_125 rfl 0 rfl ?_
      refine vv_getf hC hR hK fa4_98 0 lm_0 (fm_50 ad _ _ _) dX4_layWays_126 ?_
      refine vv_sipush hC dX4_layWays_129 sp_4096 ?_
      refine vv_iload_n hC dX4_layWays_132 rfl 3 rfl ?_
      refine vv_iconst hC dX4_layWays_133 ic_1 ?_
      refine vv_isub hC dX4_layWays_134 ?_
      refine vv_imul hC dX4_layWays_135 ?_
      refine vv_aload_n hC dX4_layWays_136 rfl 0 rfl ?_
      refine vv_getf hC hR hK fa4_102 0 lm_0 (fm_51 ad _ _ _) dX4_layWays_137 ?_
      refine vv_bipush hC dX4_layWays_140 bp_16 ?_
      refine vv_iload hC dX4_layWays_142 4 rfl ?_
      refine vv_imul hC dX4_layWays_144 ?_
      refine vv_iload hC dX4_layWays_145 6 rfl ?_
      refine vv_iadd hC dX4_layWays_147 ?_
      obtain ⟨hin, h⟩ := h
      refine vv_iald hC hR hK 29 lm_29 hin dX4_layWays_148 ?_
      refine vv_iadd hC dX4_layWays_149 ?_
      obtain ⟨hin, h⟩ := h
      refine vv_iald hC hR hK 28 lm_28 hin dX4_layWays_150 ?_
      refine vv_iconst hC dX4_layWays_151 ic_1 ?_
      refine vv_iadd hC dX4_layWays_152 ?_
      refine vv_iload hC dX4_layWays_153 6 rfl ?_
      refine vv_iconst hC dX4_layWays_155 ic_4 ?_
      refine vv_irem hC dX4_layWays_156 (by decide) ?_
      refine vv_iadd hC dX4_layWays_157 ?_
      refine vv_topi (fun x20 ex20 => ?_)
      replace h := h x20 ex20
      refine vv_istore (lv' := [(7, .int x20), (0, .ref (ad 0)), (1, .int v1), (2, .int v2), (3, .int v3), (4, .int v4), (5, .int v5), (6, .int v6)]) hC dX4_layWays_158 (by decide) rfl ?_
      refine vv_iload hC dX4_layWays_160 0 rfl ?_
      refine vv_iload hC dX4_layWays_162 6 rfl ?_
      refine vv_icmp_ge (tgt := 171) hC dX4_layWays_164 rfl (fun c21 => ?_) (fun c21 => ?_)
      · replace h := h.1 c21
        refine vv_lv [1, 2, 3, 4, 5, 6, 7] rfl ?_
        exact L171 _ h84 _ h92 _ h116 _ _ _ _ _ _ _ h
      · replace h := h.2 c21
        refine vv_iload hC dX4_layWays_167 0 rfl ?_
        refine vv_istore (lv' := [(5, .int x20), (7, .int x20), (0, .ref (ad 0)), (1, .int v1), (2, .int v2), (3, .int v3), (4, .int v4), (6, .int v6)]) hC dX4_layWays_169 (by decide) rfl ?_
        refine vv_lv [2, 3, 4, 5, 6, 0, 7] rfl ?_
        exact L171 _ h84 _ h92 _ h116 _ _ _ _ _ _ _ h
  have L111 : ∀ (P84 : Int32 → Int32 → Int32 → WS → Prop) (h84 : ∀ (v1 : Int32) (v2 : Int32) (v3 : Int32) (μ : WS), P84 v1 v2 v3 μ → VV C 8 (HPW D ac ad knM Ex (vS C)) (vQ C (QcW D ac ad knM (qV Q)) 0 0 (inLay ad knM)) (μ, ()) 84 [(0, .ref (ad 0)), (1, .int v1), (2, .int v2), (3, .int v3)] []) (P92 : Int32 → Int32 → Int32 → Int32 → WS → Prop) (h92 : ∀ (v1 : Int32) (v2 : Int32) (v3 : Int32) (v4 : Int32) (μ : WS), P92 v1 v2 v3 v4 μ → VV C 8 (HPW D ac ad knM Ex (vS C)) (vQ C (QcW D ac ad knM (qV Q)) 0 0 (inLay ad knM)) (μ, ()) 92 [(0, .ref (ad 0)), (1, .int v1), (2, .int v2), (3, .int v3), (4, .int v4)] []) (s0 : Int32) (v1 : Int32) (v2 : Int32) (v3 : Int32) (v4 : Int32) (μ : WS), w_X4_layWays_111 P84 P92 s0 v1 v2 v3 v4 μ Q → VV C 8 (HPW D ac ad knM Ex (vS C)) (vQ C (QcW D ac ad knM (qV Q)) 0 0 (inLay ad knM)) (μ, ()) 111 [(0, .ref (ad 0)), (1, .int v1), (2, .int v2), (3, .int v3), (4, .int v4)] [.int s0] := by
    intro P84 h84 P92 h92 s0 v1 v2 v3 v4 μ h
    unfold w_X4_layWays_111 at h
    refine vv_istore (lv' := [(5, .int s0), (0, .ref (ad 0)), (1, .int v1), (2, .int v2), (3, .int v3), (4, .int v4)]) hC dX4_layWays_111 (by decide) rfl ?_
    refine vv_iconst hC dX4_layWays_113 ic_0 ?_
    refine vv_istore (lv' := [(6, .int 0), (5, .int s0), (0, .ref (ad 0)), (1, .int v1), (2, .int v2), (3, .int v3), (4, .int v4)]) hC dX4_layWays_114 (by decide) rfl ?_
    refine vv_lv [2, 3, 4, 5, 6, 1, 0] rfl ?_
    exact L116 _ h84 _ h92 _ _ _ _ _ _ _ h
  have L92 : ∀ (P84 : Int32 → Int32 → Int32 → WS → Prop) (h84 : ∀ (v1 : Int32) (v2 : Int32) (v3 : Int32) (μ : WS), P84 v1 v2 v3 μ → VV C 8 (HPW D ac ad knM Ex (vS C)) (vQ C (QcW D ac ad knM (qV Q)) 0 0 (inLay ad knM)) (μ, ()) 84 [(0, .ref (ad 0)), (1, .int v1), (2, .int v2), (3, .int v3)] []) (v1 : Int32) (v2 : Int32) (v3 : Int32) (v4 : Int32) (μ : WS), w_X4_layWays_92 P84 v1 v2 v3 v4 μ Q → VV C 8 (HPW D ac ad knM Ex (vS C)) (vQ C (QcW D ac ad knM (qV Q)) 0 0 (inLay ad knM)) (μ, ()) 92 [(0, .ref (ad 0)), (1, .int v1), (2, .int v2), (3, .int v3), (4, .int v4)] [] := by
    intro P84 h84 v1 v2 v3 v4 μ h
    refine h (fun v1 v2 v3 v4 μ => VV C 8 (HPW D ac ad knM Ex (vS C)) (vQ C (QcW D ac ad knM (qV Q)) 0 0 (inLay ad knM)) (μ, ()) 92 [(0, .ref (ad 0)), (1, .int v1), (2, .int v2), (3, .int v3), (4, .int v4)] []) ?_
    clear h; intro v1 v2 v3 v4 μ h
    have h92 : ∀ (v1 : Int32) (v2 : Int32) (v3 : Int32) (v4 : Int32) (μ : WS), (fun v1 v2 v3 v4 (μ : WS) => VV C 8 (HPW D ac ad knM Ex (vS C)) (vQ C (QcW D ac ad knM (qV Q)) 0 0 (inLay ad knM)) (μ, ()) 92 [(0, .ref (ad 0)), (1, .int v1), (2, .int v2), (3, .int v3), (4, .int v4)] []) v1 v2 v3 v4 μ → VV C 8 (HPW D ac ad knM Ex (vS C)) (vQ C (QcW D ac ad knM (qV Q)) 0 0 (inLay ad knM)) (μ, ()) 92 [(0, .ref (ad 0)), (1, .int v1), (2, .int v2), (3, .int v3), (4, .int v4)] [] := fun _ _ _ _ _ h => h
    unfold w_X4_layWays_92b at h
    refine vv_iload hC dX4_layWays_92 4 rfl ?_
    refine vv_iload_n hC dX4_layWays_94 rfl 2 rfl ?_
    refine vv_icmp_ge (tgt := 198) hC dX4_layWays_95 rfl (fun c14 => ?_) (fun c14 => ?_)
    · replace h := h.1 c14
      refine vv_iinc (pl := 3) (v := v3 + 1) (lv' := [(3, .int (v3 + 1)), (0, .ref (ad 0)), (1, .int v1), (2, .int v2), (4, .int v4)]) hC dX4_layWays_198 rfl rfl (by decide) rfl ?_
      refine vv_goto (tgt := 84) hC dX4_layWays_201 rfl ?_
      refine vv_lv [1, 2, 3, 0] rfl ?_
      exact h84 _ _ _ _ h
    · replace h := h.2 c14
      refine vv_iload hC dX4_layWays_98 4 rfl ?_
      refine vv_iload_n hC dX4_layWays_100 rfl 1 rfl ?_
      refine vv_icmp_ne (tgt := 108) hC dX4_layWays_101 rfl (fun c15 => ?_) (fun c15 => ?_)
      · replace h := h.1 c15
        refine vv_ldcw hC q2179 dX4_layWays_108 ?_
        exact L111 _ h84 _ h92 _ _ _ _ _ _ h
      · replace h := h.2 c15
        refine vv_iconst hC dX4_layWays_104 ic_0 ?_
        refine vv_goto (tgt := 111) hC dX4_layWays_105 rfl ?_
        exact L111 _ h84 _ h92 _ _ _ _ _ _ h
  have L84 : ∀ (v1 : Int32) (v2 : Int32) (v3 : Int32) (μ : WS), w_X4_layWays_84  v1 v2 v3 μ Q → VV C 8 (HPW D ac ad knM Ex (vS C)) (vQ C (QcW D ac ad knM (qV Q)) 0 0 (inLay ad knM)) (μ, ()) 84 [(0, .ref (ad 0)), (1, .int v1), (2, .int v2), (3, .int v3)] [] := by
    intro  v1 v2 v3 μ h
    refine h (fun v1 v2 v3 μ => VV C 8 (HPW D ac ad knM Ex (vS C)) (vQ C (QcW D ac ad knM (qV Q)) 0 0 (inLay ad knM)) (μ, ()) 84 [(0, .ref (ad 0)), (1, .int v1), (2, .int v2), (3, .int v3)] []) ?_
    clear h; intro v1 v2 v3 μ h
    have h84 : ∀ (v1 : Int32) (v2 : Int32) (v3 : Int32) (μ : WS), (fun v1 v2 v3 (μ : WS) => VV C 8 (HPW D ac ad knM Ex (vS C)) (vQ C (QcW D ac ad knM (qV Q)) 0 0 (inLay ad knM)) (μ, ()) 84 [(0, .ref (ad 0)), (1, .int v1), (2, .int v2), (3, .int v3)] []) v1 v2 v3 μ → VV C 8 (HPW D ac ad knM Ex (vS C)) (vQ C (QcW D ac ad knM (qV Q)) 0 0 (inLay ad knM)) (μ, ()) 84 [(0, .ref (ad 0)), (1, .int v1), (2, .int v2), (3, .int v3)] [] := fun _ _ _ _ h => h
    unfold w_X4_layWays_84b at h
    refine vv_iload_n hC dX4_layWays_84 rfl 3 rfl ?_
    refine vv_iconst hC dX4_layWays_85 ic_4 ?_
    refine vv_icmp_gt (tgt := 204) hC dX4_layWays_86 rfl (fun c13 => ?_) (fun c13 => ?_)
    · replace h := h.1 c13
      exact vv_vret hC hM dX4_layWays_204 h
    · replace h := h.2 c13
      refine vv_iconst hC dX4_layWays_89 ic_0 ?_
      refine vv_istore (lv' := [(4, .int 0), (0, .ref (ad 0)), (1, .int v1), (2, .int v2), (3, .int v3)]) hC dX4_layWays_90 (by decide) rfl ?_
      refine vv_lv [1, 2, 3, 4, 0] rfl ?_
      exact L92 _ h84 _ _ _ _ _ h
  have L75 : ∀ (P9 : Int32 → Int32 → Int32 → WS → Prop) (h9 : ∀ (v1 : Int32) (v2 : Int32) (v3 : Int32) (μ : WS), P9 v1 v2 v3 μ → VV C 8 (HPW D ac ad knM Ex (vS C)) (vQ C (QcW D ac ad knM (qV Q)) 0 0 (inLay ad knM)) (μ, ()) 9 [(0, .ref (ad 0)), (1, .int v1), (2, .int v2), (3, .int v3)] []) (s0 : Int32) (s1 : Int32) (v1 : Int32) (v2 : Int32) (v3 : Int32) (μ : WS), w_X4_layWays_75 P9 s0 s1 v1 v2 v3 μ Q → VV C 8 (HPW D ac ad knM Ex (vS C)) (vQ C (QcW D ac ad knM (qV Q)) 0 0 (inLay ad knM)) (μ, ()) 75 [(0, .ref (ad 0)), (1, .int v1), (2, .int v2), (3, .int v3)] [.int s0, .int s1, .ref (ad 28)] := by
    intro P9 h9 s0 s1 v1 v2 v3 μ h
    unfold w_X4_layWays_75 at h
    obtain ⟨hin, h⟩ := h
    refine vv_iast hC hR hK 28 lm_28 hin dX4_layWays_75 ?_
    refine vv_st (fun y e => ?_)
    obtain ⟨μ12, _⟩ := y
    have eμ12 := congrArg Prod.fst e
    clear e
    replace h := h μ12 eμ12
    refine vv_iinc (pl := 3) (v := v3 + 1) (lv' := [(3, .int (v3 + 1)), (0, .ref (ad 0)), (1, .int v1), (2, .int v2)]) hC dX4_layWays_76 rfl rfl (by decide) rfl ?_
    refine vv_goto (tgt := 9) hC dX4_layWays_79 rfl ?_
    refine vv_lv [1, 2, 3, 0] rfl ?_
    exact h9 _ _ _ _ h
  have L17 : ∀ (P9 : Int32 → Int32 → Int32 → WS → Prop) (h9 : ∀ (v1 : Int32) (v2 : Int32) (v3 : Int32) (μ : WS), P9 v1 v2 v3 μ → VV C 8 (HPW D ac ad knM Ex (vS C)) (vQ C (QcW D ac ad knM (qV Q)) 0 0 (inLay ad knM)) (μ, ()) 9 [(0, .ref (ad 0)), (1, .int v1), (2, .int v2), (3, .int v3)] []) (v1 : Int32) (v2 : Int32) (v3 : Int32) (v4 : Int32) (μ : WS), w_X4_layWays_17 P9 v1 v2 v3 v4 μ Q → VV C 8 (HPW D ac ad knM Ex (vS C)) (vQ C (QcW D ac ad knM (qV Q)) 0 0 (inLay ad knM)) (μ, ()) 17 [(0, .ref (ad 0)), (1, .int v1), (2, .int v2), (3, .int v3), (4, .int v4)] [] := by
    intro P9 h9 v1 v2 v3 v4 μ h
    refine h (fun v1 v2 v3 v4 μ => VV C 8 (HPW D ac ad knM Ex (vS C)) (vQ C (QcW D ac ad knM (qV Q)) 0 0 (inLay ad knM)) (μ, ()) 17 [(0, .ref (ad 0)), (1, .int v1), (2, .int v2), (3, .int v3), (4, .int v4)] []) ?_
    clear h; intro v1 v2 v3 v4 μ h
    have h17 : ∀ (v1 : Int32) (v2 : Int32) (v3 : Int32) (v4 : Int32) (μ : WS), (fun v1 v2 v3 v4 (μ : WS) => VV C 8 (HPW D ac ad knM Ex (vS C)) (vQ C (QcW D ac ad knM (qV Q)) 0 0 (inLay ad knM)) (μ, ()) 17 [(0, .ref (ad 0)), (1, .int v1), (2, .int v2), (3, .int v3), (4, .int v4)] []) v1 v2 v3 v4 μ → VV C 8 (HPW D ac ad knM Ex (vS C)) (vQ C (QcW D ac ad knM (qV Q)) 0 0 (inLay ad knM)) (μ, ()) 17 [(0, .ref (ad 0)), (1, .int v1), (2, .int v2), (3, .int v3), (4, .int v4)] [] := fun _ _ _ _ _ h => h
    unfold w_X4_layWays_17b at h
    refine vv_iload hC dX4_layWays_17 4 rfl ?_
    refine vv_aload_n hC dX4_layWays_19 rfl 0 rfl ?_
    refine vv_callVi hC hR hK hRo hRm [] [.int v4] (met_X4_ways (vL C) D ac ad Ex hLay hEx  μ _ h) gw4_413 mf_X4_ways rfl lm_0 rfl rfl rfl rfl dX4_layWays_20 (fun r6 μ5 h => ?_)
    refine vv_icmp_ge (tgt := 58) hC dX4_layWays_23 rfl (fun c7 => ?_) (fun c7 => ?_)
    · replace h := h.1 c7
      refine vv_aload_n hC dX4_layWays_58 rfl 0 rfl ?_
      refine vv_getf hC hR hK fa4_98 0 lm_0 (fm_50 ad _ _ _) dX4_layWays_59 ?_
      refine vv_iload_n hC dX4_layWays_62 rfl 3 rfl ?_
      refine vv_iload_n hC dX4_layWays_63 rfl 3 rfl ?_
      refine vv_iload_n hC dX4_layWays_64 rfl 1 rfl ?_
      refine vv_icmp_ne (tgt := 72) hC dX4_layWays_65 rfl (fun c8 => ?_) (fun c8 => ?_)
      · replace h := h.1 c8
        refine vv_ldcw hC q2179 dX4_layWays_72 ?_
        refine vv_lv [0, 1, 2, 3] rfl ?_
        exact L75 _ h9 _ _ _ _ _ _ h
      · replace h := h.2 c8
        refine vv_iconst hC dX4_layWays_68 ic_0 ?_
        refine vv_goto (tgt := 75) hC dX4_layWays_69 rfl ?_
        refine vv_lv [0, 1, 2, 3] rfl ?_
        exact L75 _ h9 _ _ _ _ _ _ h
    · replace h := h.2 c7
      refine vv_aload_n hC dX4_layWays_26 rfl 0 rfl ?_
      refine vv_getf hC hR hK fa4_102 0 lm_0 (fm_51 ad _ _ _) dX4_layWays_27 ?_
      refine vv_bipush hC dX4_layWays_30 bp_16 ?_
      refine vv_iload_n hC dX4_layWays_32 rfl 3 rfl ?_
      refine vv_imul hC dX4_layWays_33 ?_
      refine vv_iload hC dX4_layWays_34 4 rfl ?_
      refine vv_iadd hC dX4_layWays_36 ?_
      refine vv_aload_n hC dX4_layWays_37 rfl 0 rfl ?_
      refine vv_iload_n hC dX4_layWays_38 rfl 3 rfl ?_
      refine vv_iload hC dX4_layWays_39 4 rfl ?_
      refine vv_iconst hC dX4_layWays_41 ic_4 ?_
      refine vv_idiv hC dX4_layWays_42 (by decide) ?_
      refine vv_iload hC dX4_layWays_43 4 rfl ?_
      refine vv_iconst hC dX4_layWays_45 ic_4 ?_
      refine vv_irem hC dX4_layWays_46 (by decide) ?_
      refine vv_iconst hC dX4_layWays_47 ic_0 ?_
      refine vv_callVi hC hR hK hRo hRm [.int v3, .int (v4 / 4), .int (v4 - v4 / 4 * 4), .int 0] [.int ((16 * v3) + v4), .ref (ad 29)] (met_X4_castOf (vL C) D ac ad Ex hLay hEx v3 (v4 / 4) (v4 - v4 / 4 * 4) 0 μ5 _ h) gw4_367 mf_X4_castOf rfl lm_0 rfl rfl rfl rfl dX4_layWays_48 (fun r10 μ9 h => ?_)
      obtain ⟨hin, h⟩ := h
      refine vv_iast hC hR hK 29 lm_29 hin dX4_layWays_51 ?_
      refine vv_st (fun y e => ?_)
      obtain ⟨μ11, _⟩ := y
      have eμ11 := congrArg Prod.fst e
      clear e
      replace h := h μ11 eμ11
      refine vv_iinc (pl := 4) (v := v4 + 1) (lv' := [(4, .int (v4 + 1)), (0, .ref (ad 0)), (1, .int v1), (2, .int v2), (3, .int v3)]) hC dX4_layWays_52 rfl rfl (by decide) rfl ?_
      refine vv_goto (tgt := 17) hC dX4_layWays_55 rfl ?_
      refine vv_lv [1, 2, 3, 4, 0] rfl ?_
      exact h17 _ _ _ _ _ h
  have L9 : ∀ (v1 : Int32) (v2 : Int32) (v3 : Int32) (μ : WS), w_X4_layWays_9  v1 v2 v3 μ Q → VV C 8 (HPW D ac ad knM Ex (vS C)) (vQ C (QcW D ac ad knM (qV Q)) 0 0 (inLay ad knM)) (μ, ()) 9 [(0, .ref (ad 0)), (1, .int v1), (2, .int v2), (3, .int v3)] [] := by
    intro  v1 v2 v3 μ h
    refine h (fun v1 v2 v3 μ => VV C 8 (HPW D ac ad knM Ex (vS C)) (vQ C (QcW D ac ad knM (qV Q)) 0 0 (inLay ad knM)) (μ, ()) 9 [(0, .ref (ad 0)), (1, .int v1), (2, .int v2), (3, .int v3)] []) ?_
    clear h; intro v1 v2 v3 μ h
    have h9 : ∀ (v1 : Int32) (v2 : Int32) (v3 : Int32) (μ : WS), (fun v1 v2 v3 (μ : WS) => VV C 8 (HPW D ac ad knM Ex (vS C)) (vQ C (QcW D ac ad knM (qV Q)) 0 0 (inLay ad knM)) (μ, ()) 9 [(0, .ref (ad 0)), (1, .int v1), (2, .int v2), (3, .int v3)] []) v1 v2 v3 μ → VV C 8 (HPW D ac ad knM Ex (vS C)) (vQ C (QcW D ac ad knM (qV Q)) 0 0 (inLay ad knM)) (μ, ()) 9 [(0, .ref (ad 0)), (1, .int v1), (2, .int v2), (3, .int v3)] [] := fun _ _ _ _ h => h
    unfold w_X4_layWays_9b at h
    refine vv_iload_n hC dX4_layWays_9 rfl 3 rfl ?_
    refine vv_iload_n hC dX4_layWays_10 rfl 2 rfl ?_
    refine vv_icmp_ge (tgt := 82) hC dX4_layWays_11 rfl (fun c4 => ?_) (fun c4 => ?_)
    · replace h := h.1 c4
      refine vv_iconst hC dX4_layWays_82 ic_1 ?_
      refine vv_istore_n (lv' := [(3, .int 1), (0, .ref (ad 0)), (1, .int v1), (2, .int v2)]) hC dX4_layWays_83 rfl (by decide) rfl ?_
      refine vv_lv [1, 2, 3, 0] rfl ?_
      exact L84  _ _ _ _ h
    · replace h := h.2 c4
      refine vv_iconst hC dX4_layWays_14 ic_0 ?_
      refine vv_istore (lv' := [(4, .int 0), (0, .ref (ad 0)), (1, .int v1), (2, .int v2), (3, .int v3)]) hC dX4_layWays_15 (by decide) rfl ?_
      refine vv_lv [1, 2, 3, 4, 0] rfl ?_
      exact L17 _ h9 _ _ _ _ _ h
  unfold w_X4_layWays at h
  refine vv_iconst hC dX4_layWays_0 ic_1 ?_
  refine vv_aload_n hC dX4_layWays_1 rfl 0 rfl ?_
  refine vv_callVi hC hR hK hRo hRm [] [.int 1] (met_X4_width (vL C) D ac ad Ex hLay hEx  μ _ h) gw4_342 mf_X4_width rfl lm_0 rfl rfl rfl rfl dX4_layWays_2 (fun r2 μ1 h => ?_)
  refine vv_ishl hC dX4_layWays_5 ?_
  refine vv_topi (fun x3 ex3 => ?_)
  replace h := h x3 ex3
  refine vv_istore_n (lv' := [(2, .int x3), (0, .ref (ad 0)), (1, .int v1)]) hC dX4_layWays_6 rfl (by decide) rfl ?_
  refine vv_iconst hC dX4_layWays_7 ic_0 ?_
  refine vv_istore_n (lv' := [(3, .int 0), (2, .int x3), (0, .ref (ad 0)), (1, .int v1)]) hC dX4_layWays_8 rfl (by decide) rfl ?_
  refine vv_lv [2, 3, 1, 0] rfl ?_
  exact L9  _ _ _ _ h
def w_X4_wax_141b (P121 : Int32 → Int32 → Int32 → WS → Prop) (P141 : Int32 → Int32 → Int32 → Int32 → WS → Prop) (v3 : Int32) (v4 : Int32) (v5 : Int32) (v6 : Int32) (μ : WS) (Q : Int32 → WS → Prop) : Prop := (vp_in ((16 * v4) + v6) 65536 ∧ (vp_in ((4096 * (v5 - 1)) + (μ.1 29 ((16 * v4) + v6).toNatClampNeg)) 20480 ∧ (vp_in ((4096 * v5) + v4) 20480 ∧ ((((μ.1 28 ((4096 * (v5 - 1)) + (μ.1 29 ((16 * v4) + v6).toNatClampNeg)).toNatClampNeg) + 1) + (v6 - v6 / 4 * 4) = μ.1 28 ((4096 * v5) + v4).toNatClampNeg) → (vp_in (μ.1 0 48) 12 ∧ (∀ μ23 : WS, μ23 = wset μ 26 (μ.1 0 48).toNatClampNeg ((10 * (v6 / 4)) + (v6 - v6 / 4 * 4)) → (∀ μ24 : WS, μ24 = wset μ23 0 48 ((μ23.1 0 48) + 1) → (vp_in ((16 * v4) + v6) 65536 ∧ (∀ x25 : Int32, x25 = μ24.1 29 ((16 * v4) + v6).toNatClampNeg → P121 v3 x25 (v5 + (-1)) μ24)))))) ∧ ((¬ ((μ.1 28 ((4096 * (v5 - 1)) + (μ.1 29 ((16 * v4) + v6).toNatClampNeg)).toNatClampNeg) + 1) + (v6 - v6 / 4 * 4) = μ.1 28 ((4096 * v5) + v4).toNatClampNeg) → P141 v3 v4 v5 (v6 + 1) μ))))
def w_X4_wax_141 (P121 : Int32 → Int32 → Int32 → WS → Prop) (v3 : Int32) (v4 : Int32) (v5 : Int32) (v6 : Int32) (μ : WS) (Q : Int32 → WS → Prop) : Prop := ∀ P141 : Int32 → Int32 → Int32 → Int32 → WS → Prop, (∀ (v3 : Int32) (v4 : Int32) (v5 : Int32) (v6 : Int32) (μ : WS), w_X4_wax_141b P121 P141 v3 v4 v5 v6 μ Q → P141 v3 v4 v5 v6 μ) → P141 v3 v4 v5 v6 μ
def w_X4_wax_121b (P121 : Int32 → Int32 → Int32 → WS → Prop) (v3 : Int32) (v4 : Int32) (v5 : Int32) (μ : WS) (Q : Int32 → WS → Prop) : Prop := (vp_in ((4096 * v5) + v4) 20480 ∧ ((μ.1 28 ((4096 * v5) + v4).toNatClampNeg ≤ 0) → Q v3 μ) ∧ ((¬ μ.1 28 ((4096 * v5) + v4).toNatClampNeg ≤ 0) → w_X4_wax_141 P121 v3 v4 v5 0 μ Q))
def w_X4_wax_121 (v3 : Int32) (v4 : Int32) (v5 : Int32) (μ : WS) (Q : Int32 → WS → Prop) : Prop := ∀ P121 : Int32 → Int32 → Int32 → WS → Prop, (∀ (v3 : Int32) (v4 : Int32) (v5 : Int32) (μ : WS), w_X4_wax_121b  P121 v3 v4 v5 μ Q → P121 v3 v4 v5 μ) → P121 v3 v4 v5 μ
def w_X4_wax_69 (P24 : Int32 → Int32 → WS → Prop) (v2 : Int32) (v3 : Int32) (μ : WS) (Q : Int32 → WS → Prop) : Prop := P24 v2 (v3 + 1) μ
def w_X4_wax_24b (P24 : Int32 → Int32 → WS → Prop) (v2 : Int32) (v3 : Int32) (μ : WS) (Q : Int32 → WS → Prop) : Prop := ((μ.1 21 216 ≤ v3) → (w_X4_rowOf v2 μ (fun r9 μ8 => (vp_in (16384 + r9) 20480 ∧ (∀ x10 : Int32, x10 = μ8.1 28 (16384 + r9).toNatClampNeg → ((x10 < 1000000) → (∀ μ12 : WS, μ12 = wset μ8 26 0 v2 → (∀ μ13 : WS, μ13 = wset μ12 0 48 1 → (w_X4_rowOf v2 μ13 (fun r15 μ14 => w_X4_wax_121 x10 r15 4 μ14 Q))))) ∧ ((¬ x10 < 1000000) → Q (-1) μ8)))))) ∧ ((¬ μ.1 21 216 ≤ v3) → (w_X4_rowOf v3 μ (fun r17 μ16 => (vp_in (16384 + r17) 20480 ∧ (w_X4_rowOf v2 μ16 (fun r19 μ18 => (vp_in (16384 + r19) 20480 ∧ ((μ18.1 28 (16384 + r19).toNatClampNeg ≤ μ16.1 28 (16384 + r17).toNatClampNeg) → w_X4_wax_69 P24 v2 v3 μ18 Q) ∧ ((¬ μ18.1 28 (16384 + r19).toNatClampNeg ≤ μ16.1 28 (16384 + r17).toNatClampNeg) → w_X4_wax_69 P24 v3 v3 μ18 Q))))))))
def w_X4_wax_24 (v2 : Int32) (v3 : Int32) (μ : WS) (Q : Int32 → WS → Prop) : Prop := ∀ P24 : Int32 → Int32 → WS → Prop, (∀ (v2 : Int32) (v3 : Int32) (μ : WS), w_X4_wax_24b  P24 v2 v3 μ Q → P24 v2 v3 μ) → P24 v2 v3 μ
def w_X4_wax (v1 : Int32) (μ : WS) (Q : Int32 → WS → Prop) : Prop := (∀ μ1 : WS, μ1 = wset μ 0 48 0 → (w_X4_isRow v1 μ1 (fun r3 μ2 => ((¬ r3 = 0) → (w_X4_layWays v1 μ2 (fun μ5 => w_X4_wax_24 0 1 μ5 Q))) ∧ ((r3 = 0) → Q (-1) μ2))))
abbrev rm_X4_wax : Room := { frames := 4, cells := 0, slots := 0, locals := 101 }
theorem mf_X4_wax : MFact yX4_wax 1 rm_X4_wax := ⟨by decide +kernel, rfl, rfl⟩
set_option maxHeartbeats 4000000 in
theorem met_X4_wax (l : Launch) (D : va_G) (ac : Nat → ClassId) (ad : Nat → Nat) (Ex : Heap → Prop) (hLay : LayOk ad knM) (hEx : ExOk ad knM Ex) (v1 : Int32) (μ : WS) (Q : Int32 → WS → Prop) (h : w_X4_wax v1 μ Q) : CMet l yX4_wax cX4_wax 7 (some .int) rm_X4_wax D ac ad knM Ex [.ref (ad 0), .int v1] μ (qI Q) := by
  refine vv_met (lv := [(0, .ref (ad 0)), (1, .int v1)]) (by decide) hLay hEx (Nat.le_of_ble_eq_true rfl) rfl ⟨rfl, rfl⟩ (fun C hC hK hRm hLl hR hM => ?_)
  subst hLl
  have hRo : RoomOk (HPW D ac ad knM Ex (vS C)) (vR C) := HPW.room
  have L141 : ∀ (P121 : Int32 → Int32 → Int32 → WS → Prop) (h121 : ∀ (v3 : Int32) (v4 : Int32) (v5 : Int32) (μ : WS), P121 v3 v4 v5 μ → VV C 7 (HPW D ac ad knM Ex (vS C)) (vQ C (QcW D ac ad knM (qI Q)) 0 0 (inLay ad knM)) (μ, ()) 121 [(0, .ref (ad 0)), (3, .int v3), (4, .int v4), (5, .int v5)] []) (v3 : Int32) (v4 : Int32) (v5 : Int32) (v6 : Int32) (μ : WS), w_X4_wax_141 P121 v3 v4 v5 v6 μ Q → VV C 7 (HPW D ac ad knM Ex (vS C)) (vQ C (QcW D ac ad knM (qI Q)) 0 0 (inLay ad knM)) (μ, ()) 141 [(0, .ref (ad 0)), (3, .int v3), (4, .int v4), (5, .int v5), (6, .int v6)] [] := by
    intro P121 h121 v3 v4 v5 v6 μ h
    refine h (fun v3 v4 v5 v6 μ => VV C 7 (HPW D ac ad knM Ex (vS C)) (vQ C (QcW D ac ad knM (qI Q)) 0 0 (inLay ad knM)) (μ, ()) 141 [(0, .ref (ad 0)), (3, .int v3), (4, .int v4), (5, .int v5), (6, .int v6)] []) ?_
    clear h; intro v3 v4 v5 v6 μ h
    have h141 : ∀ (v3 : Int32) (v4 : Int32) (v5 : Int32) (v6 : Int32) (μ : WS), (fun v3 v4 v5 v6 (μ : WS) => VV C 7 (HPW D ac ad knM Ex (vS C)) (vQ C (QcW D ac ad knM (qI Q)) 0 0 (inLay ad knM)) (μ, ()) 141 [(0, .ref (ad 0)), (3, .int v3), (4, .int v4), (5, .int v5), (6, .int v6)] []) v3 v4 v5 v6 μ → VV C 7 (HPW D ac ad knM Ex (vS C)) (vQ C (QcW D ac ad knM (qI Q)) 0 0 (inLay ad knM)) (μ, ()) 141 [(0, .ref (ad 0)), (3, .int v3), (4, .int v4), (5, .int v5), (6, .int v6)] [] := fun _ _ _ _ _ h => h
    unfold w_X4_wax_141b at h
    refine vv_aload_n hC dX4_wax_141 rfl 0 rfl ?_
    refine vv_getf hC hR hK fa4_98 0 lm_0 (fm_50 ad _ _ _) dX4_wax_142 ?_
    refine vv_sipush hC dX4_wax_145 sp_4096 ?_
    refine vv_iload hC dX4_wax_148 3 rfl ?_
    refine vv_iconst hC dX4_wax_150 ic_1 ?_
    refine vv_isub hC dX4_wax_151 ?_
    refine vv_imul hC dX4_wax_152 ?_
    refine vv_aload_n hC dX4_wax_153 rfl 0 rfl ?_
    refine vv_getf hC hR hK fa4_102 0 lm_0 (fm_51 ad _ _ _) dX4_wax_154 ?_
    refine vv_bipush hC dX4_wax_157 bp_16 ?_
    refine vv_iload hC dX4_wax_159 2 rfl ?_
    refine vv_imul hC dX4_wax_161 ?_
    refine vv_iload hC dX4_wax_162 4 rfl ?_
    refine vv_iadd hC dX4_wax_164 ?_
    obtain ⟨hin, h⟩ := h
    refine vv_iald hC hR hK 29 lm_29 hin dX4_wax_165 ?_
    refine vv_iadd hC dX4_wax_166 ?_
    obtain ⟨hin, h⟩ := h
    refine vv_iald hC hR hK 28 lm_28 hin dX4_wax_167 ?_
    refine vv_iconst hC dX4_wax_168 ic_1 ?_
    refine vv_iadd hC dX4_wax_169 ?_
    refine vv_iload hC dX4_wax_170 4 rfl ?_
    refine vv_iconst hC dX4_wax_172 ic_4 ?_
    refine vv_irem hC dX4_wax_173 (by decide) ?_
    refine vv_iadd hC dX4_wax_174 ?_
    refine vv_aload_n hC dX4_wax_175 rfl 0 rfl ?_
    refine vv_getf hC hR hK fa4_98 0 lm_0 (fm_50 ad _ _ _) dX4_wax_176 ?_
    refine vv_sipush hC dX4_wax_179 sp_4096 ?_
    refine vv_iload hC dX4_wax_182 3 rfl ?_
    refine vv_imul hC dX4_wax_184 ?_
    refine vv_iload hC dX4_wax_185 2 rfl ?_
    refine vv_iadd hC dX4_wax_187 ?_
    obtain ⟨hin, h⟩ := h
    refine vv_iald hC hR hK 28 lm_28 hin dX4_wax_188 ?_
    refine vv_icmp_eq (tgt := 198) hC dX4_wax_189 rfl (fun c22 => ?_) (fun c22 => ?_)
    · replace h := h.1 c22
      refine vv_aload_n hC dX4_wax_198 rfl 0 rfl ?_
      refine vv_getf hC hR hK fa4_92 0 lm_0 (fm_47 ad _ _ _) dX4_wax_199 ?_
      refine vv_aload_n hC dX4_wax_202 rfl 0 rfl ?_
      refine vv_getf hC hR hK fa4_380 0 lm_0 (fm_48 ad _ _ _) dX4_wax_203 ?_
      refine vv_bipush hC dX4_wax_206 bp_10 ?_
      refine vv_iload hC dX4_wax_208 4 rfl ?_
      refine vv_iconst hC dX4_wax_210 ic_4 ?_
      refine vv_idiv hC dX4_wax_211 (by decide) ?_
      refine vv_imul hC dX4_wax_212 ?_
      refine vv_iload hC dX4_wax_213 4 rfl ?_
      refine vv_iconst hC dX4_wax_215 ic_4 ?_
      refine vv_irem hC dX4_wax_216 (by decide) ?_
      refine vv_iadd hC dX4_wax_217 ?_
      obtain ⟨hin, h⟩ := h
      refine vv_iast hC hR hK 26 lm_26 hin dX4_wax_218 ?_
      refine vv_st (fun y e => ?_)
      obtain ⟨μ23, _⟩ := y
      have eμ23 := congrArg Prod.fst e
      clear e
      replace h := h μ23 eμ23
      refine vv_aload_n hC dX4_wax_219 rfl 0 rfl ?_
      refine vv_dup hC dX4_wax_220 rfl ?_
      refine vv_getf hC hR hK fa4_380 0 lm_0 (fm_48 ad _ _ _) dX4_wax_221 ?_
      refine vv_iconst hC dX4_wax_224 ic_1 ?_
      refine vv_iadd hC dX4_wax_225 ?_
      refine vv_puti hC hR hK fa4_380 0 lm_0 fn_48 rfl rfl dX4_wax_226 ?_
      refine vv_st (fun y e => ?_)
      obtain ⟨μ24, _⟩ := y
      have eμ24 := congrArg Prod.fst e
      clear e
      replace h := h μ24 eμ24
      refine vv_aload_n hC dX4_wax_229 rfl 0 rfl ?_
      refine vv_getf hC hR hK fa4_102 0 lm_0 (fm_51 ad _ _ _) dX4_wax_230 ?_
      refine vv_bipush hC dX4_wax_233 bp_16 ?_
      refine vv_iload hC dX4_wax_235 2 rfl ?_
      refine vv_imul hC dX4_wax_237 ?_
      refine vv_iload hC dX4_wax_238 4 rfl ?_
      refine vv_iadd hC dX4_wax_240 ?_
      obtain ⟨hin, h⟩ := h
      refine vv_iald hC hR hK 29 lm_29 hin dX4_wax_241 ?_
      refine vv_topi (fun x25 ex25 => ?_)
      replace h := h x25 ex25
      refine vv_istore (lv' := [(4, .int x25), (0, .ref (ad 0)), (3, .int v3), (5, .int v5), (6, .int v6)]) hC dX4_wax_242 (by decide) rfl ?_
      refine vv_iinc (pl := 3) (v := v5 + (-1)) (lv' := [(5, .int (v5 + (-1))), (4, .int x25), (0, .ref (ad 0)), (3, .int v3), (6, .int v6)]) hC dX4_wax_244 rfl rfl (by decide) rfl ?_
      refine vv_goto (tgt := 121) hC dX4_wax_247 rfl ?_
      refine vv_lv [2, 3, 1, 0] rfl ?_
      exact h121 _ _ _ _ h
    · replace h := h.2 c22
      refine vv_iinc (pl := 4) (v := v6 + 1) (lv' := [(6, .int (v6 + 1)), (0, .ref (ad 0)), (3, .int v3), (4, .int v4), (5, .int v5)]) hC dX4_wax_192 rfl rfl (by decide) rfl ?_
      refine vv_goto (tgt := 141) hC dX4_wax_195 rfl ?_
      refine vv_lv [1, 2, 3, 4, 0] rfl ?_
      exact h141 _ _ _ _ _ h
  have L121 : ∀ (v3 : Int32) (v4 : Int32) (v5 : Int32) (μ : WS), w_X4_wax_121  v3 v4 v5 μ Q → VV C 7 (HPW D ac ad knM Ex (vS C)) (vQ C (QcW D ac ad knM (qI Q)) 0 0 (inLay ad knM)) (μ, ()) 121 [(0, .ref (ad 0)), (3, .int v3), (4, .int v4), (5, .int v5)] [] := by
    intro  v3 v4 v5 μ h
    refine h (fun v3 v4 v5 μ => VV C 7 (HPW D ac ad knM Ex (vS C)) (vQ C (QcW D ac ad knM (qI Q)) 0 0 (inLay ad knM)) (μ, ()) 121 [(0, .ref (ad 0)), (3, .int v3), (4, .int v4), (5, .int v5)] []) ?_
    clear h; intro v3 v4 v5 μ h
    have h121 : ∀ (v3 : Int32) (v4 : Int32) (v5 : Int32) (μ : WS), (fun v3 v4 v5 (μ : WS) => VV C 7 (HPW D ac ad knM Ex (vS C)) (vQ C (QcW D ac ad knM (qI Q)) 0 0 (inLay ad knM)) (μ, ()) 121 [(0, .ref (ad 0)), (3, .int v3), (4, .int v4), (5, .int v5)] []) v3 v4 v5 μ → VV C 7 (HPW D ac ad knM Ex (vS C)) (vQ C (QcW D ac ad knM (qI Q)) 0 0 (inLay ad knM)) (μ, ()) 121 [(0, .ref (ad 0)), (3, .int v3), (4, .int v4), (5, .int v5)] [] := fun _ _ _ _ h => h
    unfold w_X4_wax_121b at h
    refine vv_aload_n hC dX4_wax_121 rfl 0 rfl ?_
    refine vv_getf hC hR hK fa4_98 0 lm_0 (fm_50 ad _ _ _) dX4_wax_122 ?_
    refine vv_sipush hC dX4_wax_125 sp_4096 ?_
    refine vv_iload hC dX4_wax_128 3 rfl ?_
    refine vv_imul hC dX4_wax_130 ?_
    refine vv_iload hC dX4_wax_131 2 rfl ?_
    refine vv_iadd hC dX4_wax_133 ?_
    obtain ⟨hin, h⟩ := h
    refine vv_iald hC hR hK 28 lm_28 hin dX4_wax_134 ?_
    refine vv_if_le (tgt := 250) hC dX4_wax_135 rfl (fun c21 => ?_) (fun c21 => ?_)
    · replace h := h.1 c21
      refine vv_iload_n hC dX4_wax_250 rfl 1 rfl ?_
      exact vv_iret hC hM dX4_wax_251 h
    · replace h := h.2 c21
      refine vv_iconst hC dX4_wax_138 ic_0 ?_
      refine vv_istore (lv' := [(6, .int 0), (0, .ref (ad 0)), (3, .int v3), (4, .int v4), (5, .int v5)]) hC dX4_wax_139 (by decide) rfl ?_
      refine vv_lv [1, 2, 3, 4, 0] rfl ?_
      exact L141 _ h121 _ _ _ _ _ h
  have L69 : ∀ (P24 : Int32 → Int32 → WS → Prop) (h24 : ∀ (v2 : Int32) (v3 : Int32) (μ : WS), P24 v2 v3 μ → VV C 7 (HPW D ac ad knM Ex (vS C)) (vQ C (QcW D ac ad knM (qI Q)) 0 0 (inLay ad knM)) (μ, ()) 24 [(0, .ref (ad 0)), (2, .int v2), (3, .int v3)] []) (v2 : Int32) (v3 : Int32) (μ : WS), w_X4_wax_69 P24 v2 v3 μ Q → VV C 7 (HPW D ac ad knM Ex (vS C)) (vQ C (QcW D ac ad knM (qI Q)) 0 0 (inLay ad knM)) (μ, ()) 69 [(0, .ref (ad 0)), (2, .int v2), (3, .int v3)] [] := by
    intro P24 h24 v2 v3 μ h
    unfold w_X4_wax_69 at h
    refine vv_iinc (pl := 2) (v := v3 + 1) (lv' := [(3, .int (v3 + 1)), (0, .ref (ad 0)), (2, .int v2)]) hC dX4_wax_69 rfl rfl (by decide) rfl ?_
    refine vv_goto (tgt := 24) hC dX4_wax_72 rfl ?_
    refine vv_lv [1, 2, 0] rfl ?_
    exact h24 _ _ _ h
  have L24 : ∀ (v2 : Int32) (v3 : Int32) (μ : WS), w_X4_wax_24  v2 v3 μ Q → VV C 7 (HPW D ac ad knM Ex (vS C)) (vQ C (QcW D ac ad knM (qI Q)) 0 0 (inLay ad knM)) (μ, ()) 24 [(0, .ref (ad 0)), (2, .int v2), (3, .int v3)] [] := by
    intro  v2 v3 μ h
    refine h (fun v2 v3 μ => VV C 7 (HPW D ac ad knM Ex (vS C)) (vQ C (QcW D ac ad knM (qI Q)) 0 0 (inLay ad knM)) (μ, ()) 24 [(0, .ref (ad 0)), (2, .int v2), (3, .int v3)] []) ?_
    clear h; intro v2 v3 μ h
    have h24 : ∀ (v2 : Int32) (v3 : Int32) (μ : WS), (fun v2 v3 (μ : WS) => VV C 7 (HPW D ac ad knM Ex (vS C)) (vQ C (QcW D ac ad knM (qI Q)) 0 0 (inLay ad knM)) (μ, ()) 24 [(0, .ref (ad 0)), (2, .int v2), (3, .int v3)] []) v2 v3 μ → VV C 7 (HPW D ac ad knM Ex (vS C)) (vQ C (QcW D ac ad knM (qI Q)) 0 0 (inLay ad knM)) (μ, ()) 24 [(0, .ref (ad 0)), (2, .int v2), (3, .int v3)] [] := fun _ _ _ h => h
    unfold w_X4_wax_24b at h
    refine vv_iload_n hC dX4_wax_24 rfl 2 rfl ?_
    refine vv_aload_n hC dX4_wax_25 rfl 0 rfl ?_
    refine vv_getf hC hR hK fa4_77 0 lm_0 (fm_40 ad _ _ _) dX4_wax_26 ?_
    refine vv_sipush hC dX4_wax_29 sp_216 ?_
    refine vv_iald hC hR hK 21 lm_21 vin_216_221 dX4_wax_32 ?_
    refine vv_icmp_ge (tgt := 75) hC dX4_wax_33 rfl (fun c7 => ?_) (fun c7 => ?_)
    · replace h := h.1 c7
      refine vv_aload_n hC dX4_wax_75 rfl 0 rfl ?_
      refine vv_getf hC hR hK fa4_98 0 lm_0 (fm_50 ad _ _ _) dX4_wax_76 ?_
      refine vv_sipush hC dX4_wax_79 sp_16384 ?_
      refine vv_aload_n hC dX4_wax_82 rfl 0 rfl ?_
      refine vv_iload_n hC dX4_wax_83 rfl 1 rfl ?_
      refine vv_callVi hC hR hK hRo hRm [.int v2] [.int 16384, .ref (ad 28)] (met_X4_rowOf (vL C) D ac ad Ex hLay hEx v2 μ _ h) gw4_392 mf_X4_rowOf rfl lm_0 rfl rfl rfl rfl dX4_wax_84 (fun r9 μ8 h => ?_)
      refine vv_iadd hC dX4_wax_87 ?_
      obtain ⟨hin, h⟩ := h
      refine vv_iald hC hR hK 28 lm_28 hin dX4_wax_88 ?_
      refine vv_topi (fun x10 ex10 => ?_)
      replace h := h x10 ex10
      refine vv_istore_n (lv' := [(3, .int x10), (0, .ref (ad 0)), (2, .int v2)]) hC dX4_wax_89 rfl (by decide) rfl ?_
      refine vv_iload_n hC dX4_wax_90 rfl 0 rfl ?_
      refine vv_ldcw hC q2179 dX4_wax_91 ?_
      refine vv_icmp_lt (tgt := 99) hC dX4_wax_94 rfl (fun c11 => ?_) (fun c11 => ?_)
      · replace h := h.1 c11
        refine vv_aload_n hC dX4_wax_99 rfl 1 rfl ?_
        refine vv_getf hC hR hK fa4_92 0 lm_0 (fm_47 ad _ _ _) dX4_wax_100 ?_
        refine vv_iconst hC dX4_wax_103 ic_0 ?_
        refine vv_iload_n hC dX4_wax_104 rfl 2 rfl ?_
        refine vv_iast hC hR hK 26 lm_26 vin_0_12 dX4_wax_105 ?_
        refine vv_st (fun y e => ?_)
        obtain ⟨μ12, _⟩ := y
        have eμ12 := congrArg Prod.fst e
        clear e
        replace h := h μ12 eμ12
        refine vv_aload_n hC dX4_wax_106 rfl 1 rfl ?_
        refine vv_iconst hC dX4_wax_107 ic_1 ?_
        refine vv_puti hC hR hK fa4_380 0 lm_0 fn_48 rfl rfl dX4_wax_108 ?_
        refine vv_st (fun y e => ?_)
        obtain ⟨μ13, _⟩ := y
        have eμ13 := congrArg Prod.fst e
        clear e
        replace h := h μ13 eμ13
        refine vv_aload_n hC dX4_wax_111 rfl 1 rfl ?_
        refine vv_iload_n hC dX4_wax_112 rfl 2 rfl ?_
        refine vv_callVi hC hR hK hRo hRm [.int v2] [] (met_X4_rowOf (vL C) D ac ad Ex hLay hEx v2 μ13 _ h) gw4_392 mf_X4_rowOf rfl lm_0 rfl rfl rfl rfl dX4_wax_113 (fun r15 μ14 h => ?_)
        refine vv_istore (lv' := [(4, .int r15), (3, .int x10), (0, .ref (ad 0)), (2, .int v2)]) hC dX4_wax_116 (by decide) rfl ?_
        refine vv_iconst hC dX4_wax_118 ic_4 ?_
        refine vv_istore (lv' := [(5, .int 4), (4, .int r15), (3, .int x10), (0, .ref (ad 0)), (2, .int v2)]) hC dX4_wax_119 (by decide) rfl ?_
        refine vv_lv [3, 2, 1, 0] rfl ?_
        exact L121  _ _ _ _ h
      · replace h := h.2 c11
        refine vv_iconst hC dX4_wax_97 ic_m1 ?_
        exact vv_iret hC hM dX4_wax_98 h
    · replace h := h.2 c7
      refine vv_aload_n hC dX4_wax_36 rfl 0 rfl ?_
      refine vv_getf hC hR hK fa4_98 0 lm_0 (fm_50 ad _ _ _) dX4_wax_37 ?_
      refine vv_sipush hC dX4_wax_40 sp_16384 ?_
      refine vv_aload_n hC dX4_wax_43 rfl 0 rfl ?_
      refine vv_iload_n hC dX4_wax_44 rfl 2 rfl ?_
      refine vv_callVi hC hR hK hRo hRm [.int v3] [.int 16384, .ref (ad 28)] (met_X4_rowOf (vL C) D ac ad Ex hLay hEx v3 μ _ h) gw4_392 mf_X4_rowOf rfl lm_0 rfl rfl rfl rfl dX4_wax_45 (fun r17 μ16 h => ?_)
      refine vv_iadd hC dX4_wax_48 ?_
      obtain ⟨hin, h⟩ := h
      refine vv_iald hC hR hK 28 lm_28 hin dX4_wax_49 ?_
      refine vv_aload_n hC dX4_wax_50 rfl 0 rfl ?_
      refine vv_getf hC hR hK fa4_98 0 lm_0 (fm_50 ad _ _ _) dX4_wax_51 ?_
      refine vv_sipush hC dX4_wax_54 sp_16384 ?_
      refine vv_aload_n hC dX4_wax_57 rfl 0 rfl ?_
      refine vv_iload_n hC dX4_wax_58 rfl 1 rfl ?_
      refine vv_callVi hC hR hK hRo hRm [.int v2] [.int 16384, .ref (ad 28), .int (μ16.1 28 (16384 + r17).toNatClampNeg)] (met_X4_rowOf (vL C) D ac ad Ex hLay hEx v2 μ16 _ h) gw4_392 mf_X4_rowOf rfl lm_0 rfl rfl rfl rfl dX4_wax_59 (fun r19 μ18 h => ?_)
      refine vv_iadd hC dX4_wax_62 ?_
      obtain ⟨hin, h⟩ := h
      refine vv_iald hC hR hK 28 lm_28 hin dX4_wax_63 ?_
      refine vv_icmp_ge (tgt := 69) hC dX4_wax_64 rfl (fun c20 => ?_) (fun c20 => ?_)
      · replace h := h.1 c20
        exact L69 _ h24 _ _ _ h
      · replace h := h.2 c20
        refine vv_iload_n hC dX4_wax_67 rfl 2 rfl ?_
        refine vv_istore_n (lv' := [(2, .int v3), (0, .ref (ad 0)), (3, .int v3)]) hC dX4_wax_68 rfl (by decide) rfl ?_
        refine vv_lv [1, 0, 2] rfl ?_
        exact L69 _ h24 _ _ _ h
  unfold w_X4_wax at h
  refine vv_aload_n hC dX4_wax_0 rfl 0 rfl ?_
  refine vv_iconst hC dX4_wax_1 ic_0 ?_
  refine vv_puti hC hR hK fa4_380 0 lm_0 fn_48 rfl rfl dX4_wax_2 ?_
  refine vv_st (fun y e => ?_)
  obtain ⟨μ1, _⟩ := y
  have eμ1 := congrArg Prod.fst e
  clear e
  replace h := h μ1 eμ1
  refine vv_aload_n hC dX4_wax_5 rfl 0 rfl ?_
  refine vv_iload_n hC dX4_wax_6 rfl 1 rfl ?_
  refine vv_callVi hC hR hK hRo hRm [.int v1] [] (met_X4_isRow (vL C) D ac ad Ex hLay hEx v1 μ1 _ h) gw4_358 mf_X4_isRow rfl lm_0 rfl rfl rfl rfl dX4_wax_7 (fun r3 μ2 h => ?_)
  refine vv_if_ne (tgt := 15) hC dX4_wax_10 rfl (fun c4 => ?_) (fun c4 => ?_)
  · replace h := h.1 c4
    refine vv_aload_n hC dX4_wax_15 rfl 0 rfl ?_
    refine vv_iload_n hC dX4_wax_16 rfl 1 rfl ?_
    refine vv_callVv hC hR hK hRo hRm [.int v1] [] (met_X4_layWays (vL C) D ac ad Ex hLay hEx v1 μ2 _ h) gw4_417 mf_X4_layWays rfl lm_0 rfl rfl rfl rfl dX4_wax_17 (fun μ5 h => ?_)
    refine vv_iconst hC dX4_wax_20 ic_0 ?_
    refine vv_istore_n (lv' := [(2, .int 0), (0, .ref (ad 0)), (1, .int v1)]) hC dX4_wax_21 rfl (by decide) rfl ?_
    refine vv_iconst hC dX4_wax_22 ic_1 ?_
    refine vv_istore_n (lv' := [(3, .int 1), (2, .int 0), (0, .ref (ad 0)), (1, .int v1)]) hC dX4_wax_23 rfl (by decide) rfl ?_
    refine vv_lv [2, 1, 0] rfl ?_
    exact L24  _ _ _ h
  · replace h := h.2 c4
    refine vv_iconst hC dX4_wax_13 ic_m1 ?_
    exact vv_iret hC hM dX4_wax_14 h
def w_X4_fact (v1 : Int32) (v2 : Int32) (v3 : Int32) (v4 : Int32) (μ : WS) (Q : Int32 → WS → Prop) : Prop := ((¬ μ.1 0 58 = 40) → (vp_in (μ.1 0 58) 40 ∧ (∀ μ2 : WS, μ2 = wset μ 30 (μ.1 0 58).toNatClampNeg v1 → (vp_in (μ2.1 0 58) 40 ∧ (∀ μ3 : WS, μ3 = wset μ2 31 (μ2.1 0 58).toNatClampNeg v2 → (vp_in (μ3.1 0 58) 40 ∧ (∀ μ4 : WS, μ4 = wset μ3 32 (μ3.1 0 58).toNatClampNeg v3 → (vp_in (μ4.1 0 58) 40 ∧ (∀ μ5 : WS, μ5 = wset μ4 33 (μ4.1 0 58).toNatClampNeg v4 → (vp_in (μ5.1 0 58) 40 ∧ (∀ μ6 : WS, μ6 = wset μ5 34 (μ5.1 0 58).toNatClampNeg (μ5.1 0 59) → (vp_in (μ6.1 0 58) 40 ∧ (∀ μ7 : WS, μ7 = wset μ6 35 (μ6.1 0 58).toNatClampNeg (-1) → (∀ μ8 : WS, μ8 = wset μ7 0 58 ((μ7.1 0 58) + 1) → Q ((μ8.1 0 58) - 1) μ8)))))))))))))) ∧ ((μ.1 0 58 = 40) → Q (-1) μ)
abbrev rm_X4_fact : Room := { frames := 0, cells := 0, slots := 0, locals := 0 }
theorem mf_X4_fact : MFact yX4_fact 4 rm_X4_fact := ⟨by decide +kernel, rfl, rfl⟩
set_option maxHeartbeats 4000000 in
theorem met_X4_fact (l : Launch) (D : va_G) (ac : Nat → ClassId) (ad : Nat → Nat) (Ex : Heap → Prop) (hLay : LayOk ad knM) (hEx : ExOk ad knM Ex) (v1 : Int32) (v2 : Int32) (v3 : Int32) (v4 : Int32) (μ : WS) (Q : Int32 → WS → Prop) (h : w_X4_fact v1 v2 v3 v4 μ Q) : CMet l yX4_fact cX4_fact 5 (some .int) rm_X4_fact D ac ad knM Ex [.ref (ad 0), .int v1, .int v2, .int v3, .int v4] μ (qI Q) := by
  refine vv_met (lv := [(0, .ref (ad 0)), (1, .int v1), (2, .int v2), (3, .int v3), (4, .int v4)]) (by decide) hLay hEx (Nat.le_of_ble_eq_true rfl) rfl ⟨rfl, rfl⟩ (fun C hC hK hRm hLl hR hM => ?_)
  subst hLl
  have hRo : RoomOk (HPW D ac ad knM Ex (vS C)) (vR C) := HPW.room
  unfold w_X4_fact at h
  refine vv_aload_n hC dX4_fact_0 rfl 0 rfl ?_
  refine vv_getf hC hR hK fa4_377 0 lm_0 (fm_58 ad _ _ _) dX4_fact_1 ?_
  refine vv_bipush hC dX4_fact_4 bp_40 ?_
  refine vv_icmp_ne (tgt := 11) hC dX4_fact_6 rfl (fun c1 => ?_) (fun c1 => ?_)
  · replace h := h.1 c1
    refine vv_aload_n hC dX4_fact_11 rfl 0 rfl ?_
    refine vv_getf hC hR hK fa4_105 0 lm_0 (fm_52 ad _ _ _) dX4_fact_12 ?_
    refine vv_aload_n hC dX4_fact_15 rfl 0 rfl ?_
    refine vv_getf hC hR hK fa4_377 0 lm_0 (fm_58 ad _ _ _) dX4_fact_16 ?_
    refine vv_iload_n hC dX4_fact_19 rfl 1 rfl ?_
    obtain ⟨hin, h⟩ := h
    refine vv_iast hC hR hK 30 lm_30 hin dX4_fact_20 ?_
    refine vv_st (fun y e => ?_)
    obtain ⟨μ2, _⟩ := y
    have eμ2 := congrArg Prod.fst e
    clear e
    replace h := h μ2 eμ2
    refine vv_aload_n hC dX4_fact_21 rfl 0 rfl ?_
    refine vv_getf hC hR hK fa4_108 0 lm_0 (fm_53 ad _ _ _) dX4_fact_22 ?_
    refine vv_aload_n hC dX4_fact_25 rfl 0 rfl ?_
    refine vv_getf hC hR hK fa4_377 0 lm_0 (fm_58 ad _ _ _) dX4_fact_26 ?_
    refine vv_iload_n hC dX4_fact_29 rfl 2 rfl ?_
    obtain ⟨hin, h⟩ := h
    refine vv_iast hC hR hK 31 lm_31 hin dX4_fact_30 ?_
    refine vv_st (fun y e => ?_)
    obtain ⟨μ3, _⟩ := y
    have eμ3 := congrArg Prod.fst e
    clear e
    replace h := h μ3 eμ3
    refine vv_aload_n hC dX4_fact_31 rfl 0 rfl ?_
    refine vv_getf hC hR hK fa4_111 0 lm_0 (fm_54 ad _ _ _) dX4_fact_32 ?_
    refine vv_aload_n hC dX4_fact_35 rfl 0 rfl ?_
    refine vv_getf hC hR hK fa4_377 0 lm_0 (fm_58 ad _ _ _) dX4_fact_36 ?_
    refine vv_iload_n hC dX4_fact_39 rfl 3 rfl ?_
    obtain ⟨hin, h⟩ := h
    refine vv_iast hC hR hK 32 lm_32 hin dX4_fact_40 ?_
    refine vv_st (fun y e => ?_)
    obtain ⟨μ4, _⟩ := y
    have eμ4 := congrArg Prod.fst e
    clear e
    replace h := h μ4 eμ4
    refine vv_aload_n hC dX4_fact_41 rfl 0 rfl ?_
    refine vv_getf hC hR hK fa4_114 0 lm_0 (fm_55 ad _ _ _) dX4_fact_42 ?_
    refine vv_aload_n hC dX4_fact_45 rfl 0 rfl ?_
    refine vv_getf hC hR hK fa4_377 0 lm_0 (fm_58 ad _ _ _) dX4_fact_46 ?_
    refine vv_iload hC dX4_fact_49 4 rfl ?_
    obtain ⟨hin, h⟩ := h
    refine vv_iast hC hR hK 33 lm_33 hin dX4_fact_51 ?_
    refine vv_st (fun y e => ?_)
    obtain ⟨μ5, _⟩ := y
    have eμ5 := congrArg Prod.fst e
    clear e
    replace h := h μ5 eμ5
    refine vv_aload_n hC dX4_fact_52 rfl 0 rfl ?_
    refine vv_getf hC hR hK fa4_117 0 lm_0 (fm_56 ad _ _ _) dX4_fact_53 ?_
    refine vv_aload_n hC dX4_fact_56 rfl 0 rfl ?_
    refine vv_getf hC hR hK fa4_377 0 lm_0 (fm_58 ad _ _ _) dX4_fact_57 ?_
    refine vv_aload_n hC dX4_fact_60 rfl 0 rfl ?_
    refine vv_getf hC hR hK fa4_420 0 lm_0 (fm_59 ad _ _ _) dX4_fact_61 ?_
    obtain ⟨hin, h⟩ := h
    refine vv_iast hC hR hK 34 lm_34 hin dX4_fact_64 ?_
    refine vv_st (fun y e => ?_)
    obtain ⟨μ6, _⟩ := y
    have eμ6 := congrArg Prod.fst e
    clear e
    replace h := h μ6 eμ6
    refine vv_aload_n hC dX4_fact_65 rfl 0 rfl ?_
    refine vv_getf hC hR hK fa4_120 0 lm_0 (fm_57 ad _ _ _) dX4_fact_66 ?_
    refine vv_aload_n hC dX4_fact_69 rfl 0 rfl ?_
    refine vv_getf hC hR hK fa4_377 0 lm_0 (fm_58 ad _ _ _) dX4_fact_70 ?_
    refine vv_iconst hC dX4_fact_73 ic_m1 ?_
    obtain ⟨hin, h⟩ := h
    refine vv_iast hC hR hK 35 lm_35 hin dX4_fact_74 ?_
    refine vv_st (fun y e => ?_)
    obtain ⟨μ7, _⟩ := y
    have eμ7 := congrArg Prod.fst e
    clear e
    replace h := h μ7 eμ7
    refine vv_aload_n hC dX4_fact_75 rfl 0 rfl ?_
    refine vv_dup hC dX4_fact_76 rfl ?_
    refine vv_getf hC hR hK fa4_377 0 lm_0 (fm_58 ad _ _ _) dX4_fact_77 ?_
    refine vv_iconst hC dX4_fact_80 ic_1 ?_
    refine vv_iadd hC dX4_fact_81 ?_
    refine vv_puti hC hR hK fa4_377 0 lm_0 fn_58 rfl rfl dX4_fact_82 ?_
    refine vv_st (fun y e => ?_)
    obtain ⟨μ8, _⟩ := y
    have eμ8 := congrArg Prod.fst e
    clear e
    replace h := h μ8 eμ8
    refine vv_aload_n hC dX4_fact_85 rfl 0 rfl ?_
    refine vv_getf hC hR hK fa4_377 0 lm_0 (fm_58 ad _ _ _) dX4_fact_86 ?_
    refine vv_iconst hC dX4_fact_89 ic_1 ?_
    refine vv_isub hC dX4_fact_90 ?_
    exact vv_iret hC hM dX4_fact_91 h
  · replace h := h.2 c1
    refine vv_iconst hC dX4_fact_9 ic_m1 ?_
    exact vv_iret hC hM dX4_fact_10 h
def w_X4_sample_20 (s0 : Int32) (s1 : Int32) (s2 : Int32) (μ : WS) (Q : Int32 → WS → Prop) : Prop := (w_X4_fact s2 s1 s0 0 μ (fun r6 μ5 => Q r6 μ5))
def w_X4_sample (v1 : Int32) (v2 : Int32) (μ : WS) (Q : Int32 → WS → Prop) : Prop := (w_X4_isRow v1 μ (fun r2 μ1 => ((r2 = 0) → Q (-1) μ1) ∧ ((¬ r2 = 0) → ((v2 = 0) → w_X4_sample_20 0 v1 0 μ1 Q) ∧ ((¬ v2 = 0) → w_X4_sample_20 1 v1 0 μ1 Q))))
abbrev rm_X4_sample : Room := { frames := 2, cells := 0, slots := 0, locals := 41 }
theorem mf_X4_sample : MFact yX4_sample 2 rm_X4_sample := ⟨by decide +kernel, rfl, rfl⟩
set_option maxHeartbeats 4000000 in
theorem met_X4_sample (l : Launch) (D : va_G) (ac : Nat → ClassId) (ad : Nat → Nat) (Ex : Heap → Prop) (hLay : LayOk ad knM) (hEx : ExOk ad knM Ex) (v1 : Int32) (v2 : Int32) (μ : WS) (Q : Int32 → WS → Prop) (h : w_X4_sample v1 v2 μ Q) : CMet l yX4_sample cX4_sample 3 (some .int) rm_X4_sample D ac ad knM Ex [.ref (ad 0), .int v1, .int v2] μ (qI Q) := by
  refine vv_met (lv := [(0, .ref (ad 0)), (1, .int v1), (2, .int v2)]) (by decide) hLay hEx (Nat.le_of_ble_eq_true rfl) rfl ⟨rfl, rfl⟩ (fun C hC hK hRm hLl hR hM => ?_)
  subst hLl
  have hRo : RoomOk (HPW D ac ad knM Ex (vS C)) (vR C) := HPW.room
  have L20 : ∀ (s0 : Int32) (s1 : Int32) (s2 : Int32) (μ : WS), w_X4_sample_20  s0 s1 s2 μ Q → VV C 3 (HPW D ac ad knM Ex (vS C)) (vQ C (QcW D ac ad knM (qI Q)) 0 0 (inLay ad knM)) (μ, ()) 20 [] [.int s0, .int s1, .int s2, .ref (ad 0)] := by
    intro  s0 s1 s2 μ h
    unfold w_X4_sample_20 at h
    refine vv_iconst hC dX4_sample_20 ic_0 ?_
    refine vv_callVi hC hR hK hRo hRm [.int s2, .int s1, .int s0, .int 0] [] (met_X4_fact (vL C) D ac ad Ex hLay hEx s2 s1 s0 0 μ _ h) gw4_423 mf_X4_fact rfl lm_0 rfl rfl rfl rfl dX4_sample_21 (fun r6 μ5 h => ?_)
    refine vv_goto (tgt := 28) hC dX4_sample_24 rfl ?_
    exact vv_iret hC hM dX4_sample_28 h
  unfold w_X4_sample at h
  refine vv_aload_n hC dX4_sample_0 rfl 0 rfl ?_
  refine vv_iload_n hC dX4_sample_1 rfl 1 rfl ?_
  refine vv_callVi hC hR hK hRo hRm [.int v1] [] (met_X4_isRow (vL C) D ac ad Ex hLay hEx v1 μ _ h) gw4_358 mf_X4_isRow rfl lm_0 rfl rfl rfl rfl dX4_sample_2 (fun r2 μ1 h => ?_)
  refine vv_if_eq (tgt := 27) hC dX4_sample_5 rfl (fun c3 => ?_) (fun c3 => ?_)
  · replace h := h.1 c3
    refine vv_iconst hC dX4_sample_27 ic_m1 ?_
    exact vv_iret hC hM dX4_sample_28 h
  · replace h := h.2 c3
    refine vv_aload_n hC dX4_sample_8 rfl 0 rfl ?_
    refine vv_iconst hC dX4_sample_9 ic_0 ?_
    refine vv_iload_n hC dX4_sample_10 rfl 1 rfl ?_
    refine vv_iload_n hC dX4_sample_11 rfl 2 rfl ?_
    refine vv_if_eq (tgt := 19) hC dX4_sample_12 rfl (fun c4 => ?_) (fun c4 => ?_)
    · replace h := h.1 c4
      refine vv_iconst hC dX4_sample_19 ic_0 ?_
      refine vv_lv [] rfl ?_
      exact L20  _ _ _ _ h
    · replace h := h.2 c4
      refine vv_iconst hC dX4_sample_15 ic_1 ?_
      refine vv_goto (tgt := 20) hC dX4_sample_16 rfl ?_
      refine vv_lv [] rfl ?_
      exact L20  _ _ _ _ h
def w_X4_claim (v1 : Int32) (v2 : Int32) (v3 : Int32) (μ : WS) (Q : Int32 → WS → Prop) : Prop := (w_X4_isRow v1 μ (fun r2 μ1 => ((r2 = 0) → Q (-1) μ1) ∧ ((¬ r2 = 0) → (w_X4_isSeal v2 μ1 (fun r5 μ4 => ((r5 = 0) → Q (-1) μ4) ∧ ((¬ r5 = 0) → (w_X4_isIn v3 0 999 μ4 (fun r8 μ7 => ((r8 = 0) → Q (-1) μ7) ∧ ((¬ r8 = 0) → (w_X4_fact 1 v1 v2 v3 μ7 (fun r11 μ10 => Q r11 μ10)))))))))))
abbrev rm_X4_claim : Room := { frames := 2, cells := 0, slots := 0, locals := 43 }
theorem mf_X4_claim : MFact yX4_claim 3 rm_X4_claim := ⟨by decide +kernel, rfl, rfl⟩
set_option maxHeartbeats 4000000 in
theorem met_X4_claim (l : Launch) (D : va_G) (ac : Nat → ClassId) (ad : Nat → Nat) (Ex : Heap → Prop) (hLay : LayOk ad knM) (hEx : ExOk ad knM Ex) (v1 : Int32) (v2 : Int32) (v3 : Int32) (μ : WS) (Q : Int32 → WS → Prop) (h : w_X4_claim v1 v2 v3 μ Q) : CMet l yX4_claim cX4_claim 4 (some .int) rm_X4_claim D ac ad knM Ex [.ref (ad 0), .int v1, .int v2, .int v3] μ (qI Q) := by
  refine vv_met (lv := [(0, .ref (ad 0)), (1, .int v1), (2, .int v2), (3, .int v3)]) (by decide) hLay hEx (Nat.le_of_ble_eq_true rfl) rfl ⟨rfl, rfl⟩ (fun C hC hK hRm hLl hR hM => ?_)
  subst hLl
  have hRo : RoomOk (HPW D ac ad knM Ex (vS C)) (vR C) := HPW.room
  unfold w_X4_claim at h
  refine vv_aload_n hC dX4_claim_0 rfl 0 rfl ?_
  refine vv_iload_n hC dX4_claim_1 rfl 1 rfl ?_
  refine vv_callVi hC hR hK hRo hRm [.int v1] [] (met_X4_isRow (vL C) D ac ad Ex hLay hEx v1 μ _ h) gw4_358 mf_X4_isRow rfl lm_0 rfl rfl rfl rfl dX4_claim_2 (fun r2 μ1 h => ?_)
  refine vv_if_eq (tgt := 38) hC dX4_claim_5 rfl (fun c3 => ?_) (fun c3 => ?_)
  · replace h := h.1 c3
    refine vv_iconst hC dX4_claim_38 ic_m1 ?_
    exact vv_iret hC hM dX4_claim_39 h
  · replace h := h.2 c3
    refine vv_aload_n hC dX4_claim_8 rfl 0 rfl ?_
    refine vv_iload_n hC dX4_claim_9 rfl 2 rfl ?_
    refine vv_callVi hC hR hK hRo hRm [.int v2] [] (met_X4_isSeal (vL C) D ac ad Ex hLay hEx v2 μ1 _ h) gw4_383 mf_X4_isSeal rfl lm_0 rfl rfl rfl rfl dX4_claim_10 (fun r5 μ4 h => ?_)
    refine vv_if_eq (tgt := 38) hC dX4_claim_13 rfl (fun c6 => ?_) (fun c6 => ?_)
    · replace h := h.1 c6
      refine vv_iconst hC dX4_claim_38 ic_m1 ?_
      exact vv_iret hC hM dX4_claim_39 h
    · replace h := h.2 c6
      refine vv_iload_n hC dX4_claim_16 rfl 3 rfl ?_
      refine vv_iconst hC dX4_claim_17 ic_0 ?_
      refine vv_sipush hC dX4_claim_18 sp_999 ?_
      refine vv_callSi hC hR hK hRo hRm [.int v3, .int 0, .int 999] [] (met_X4_isIn (vL C) D ac ad Ex hLay hEx v3 0 999 μ4 _ h) gw4_345 mf_X4_isIn rfl rfl rfl dX4_claim_21 (fun r8 μ7 h => ?_)
      refine vv_if_eq (tgt := 38) hC dX4_claim_24 rfl (fun c9 => ?_) (fun c9 => ?_)
      · replace h := h.1 c9
        refine vv_iconst hC dX4_claim_38 ic_m1 ?_
        exact vv_iret hC hM dX4_claim_39 h
      · replace h := h.2 c9
        refine vv_aload_n hC dX4_claim_27 rfl 0 rfl ?_
        refine vv_iconst hC dX4_claim_28 ic_1 ?_
        refine vv_iload_n hC dX4_claim_29 rfl 1 rfl ?_
        refine vv_iload_n hC dX4_claim_30 rfl 2 rfl ?_
        refine vv_iload_n hC dX4_claim_31 rfl 3 rfl ?_
        refine vv_callVi hC hR hK hRo hRm [.int 1, .int v1, .int v2, .int v3] [] (met_X4_fact (vL C) D ac ad Ex hLay hEx 1 v1 v2 v3 μ7 _ h) gw4_423 mf_X4_fact rfl lm_0 rfl rfl rfl rfl dX4_claim_32 (fun r11 μ10 h => ?_)
        refine vv_goto (tgt := 39) hC dX4_claim_35 rfl ?_
        exact vv_iret hC hM dX4_claim_39 h
def w_X4_saw_38 (s0 : Int32) (s1 : Int32) (s2 : Int32) (s3 : Int32) (μ : WS) (Q : Int32 → WS → Prop) : Prop := (w_X4_fact s3 s2 s1 s0 μ (fun r11 μ10 => Q r11 μ10))
def w_X4_saw (v1 : Int32) (v2 : Int32) (v3 : Int32) (μ : WS) (Q : Int32 → WS → Prop) : Prop := (w_X4_width μ (fun r2 μ1 => (w_X4_isIn v1 0 (r2 - 1) μ1 (fun r4 μ3 => ((r4 = 0) → Q (-1) μ3) ∧ ((¬ r4 = 0) → (w_X4_isIn v2 0 999 μ3 (fun r7 μ6 => ((r7 = 0) → Q (-1) μ6) ∧ ((¬ r7 = 0) → ((v3 = 0) → w_X4_saw_38 0 v2 v1 2 μ6 Q) ∧ ((¬ v3 = 0) → w_X4_saw_38 1 v2 v1 2 μ6 Q)))))))))
abbrev rm_X4_saw : Room := { frames := 1, cells := 0, slots := 0, locals := 24 }
theorem mf_X4_saw : MFact yX4_saw 3 rm_X4_saw := ⟨by decide +kernel, rfl, rfl⟩
set_option maxHeartbeats 4000000 in
theorem met_X4_saw (l : Launch) (D : va_G) (ac : Nat → ClassId) (ad : Nat → Nat) (Ex : Heap → Prop) (hLay : LayOk ad knM) (hEx : ExOk ad knM Ex) (v1 : Int32) (v2 : Int32) (v3 : Int32) (μ : WS) (Q : Int32 → WS → Prop) (h : w_X4_saw v1 v2 v3 μ Q) : CMet l yX4_saw cX4_saw 4 (some .int) rm_X4_saw D ac ad knM Ex [.ref (ad 0), .int v1, .int v2, .int v3] μ (qI Q) := by
  refine vv_met (lv := [(0, .ref (ad 0)), (1, .int v1), (2, .int v2), (3, .int v3)]) (by decide) hLay hEx (Nat.le_of_ble_eq_true rfl) rfl ⟨rfl, rfl⟩ (fun C hC hK hRm hLl hR hM => ?_)
  subst hLl
  have hRo : RoomOk (HPW D ac ad knM Ex (vS C)) (vR C) := HPW.room
  have L38 : ∀ (s0 : Int32) (s1 : Int32) (s2 : Int32) (s3 : Int32) (μ : WS), w_X4_saw_38  s0 s1 s2 s3 μ Q → VV C 4 (HPW D ac ad knM Ex (vS C)) (vQ C (QcW D ac ad knM (qI Q)) 0 0 (inLay ad knM)) (μ, ()) 38 [] [.int s0, .int s1, .int s2, .int s3, .ref (ad 0)] := by
    intro  s0 s1 s2 s3 μ h
    unfold w_X4_saw_38 at h
    refine vv_callVi hC hR hK hRo hRm [.int s3, .int s2, .int s1, .int s0] [] (met_X4_fact (vL C) D ac ad Ex hLay hEx s3 s2 s1 s0 μ _ h) gw4_423 mf_X4_fact rfl lm_0 rfl rfl rfl rfl dX4_saw_38 (fun r11 μ10 h => ?_)
    refine vv_goto (tgt := 45) hC dX4_saw_41 rfl ?_
    exact vv_iret hC hM dX4_saw_45 h
  unfold w_X4_saw at h
  refine vv_iload_n hC dX4_saw_0 rfl 1 rfl ?_
  refine vv_iconst hC dX4_saw_1 ic_0 ?_
  refine vv_aload_n hC dX4_saw_2 rfl 0 rfl ?_
  refine vv_callVi hC hR hK hRo hRm [] [.int 0, .int v1] (met_X4_width (vL C) D ac ad Ex hLay hEx  μ _ h) gw4_342 mf_X4_width rfl lm_0 rfl rfl rfl rfl dX4_saw_3 (fun r2 μ1 h => ?_)
  refine vv_iconst hC dX4_saw_6 ic_1 ?_
  refine vv_isub hC dX4_saw_7 ?_
  refine vv_callSi hC hR hK hRo hRm [.int v1, .int 0, .int (r2 - 1)] [] (met_X4_isIn (vL C) D ac ad Ex hLay hEx v1 0 (r2 - 1) μ1 _ h) gw4_345 mf_X4_isIn rfl rfl rfl dX4_saw_8 (fun r4 μ3 h => ?_)
  refine vv_if_eq (tgt := 44) hC dX4_saw_11 rfl (fun c5 => ?_) (fun c5 => ?_)
  · replace h := h.1 c5
    refine vv_iconst hC dX4_saw_44 ic_m1 ?_
    exact vv_iret hC hM dX4_saw_45 h
  · replace h := h.2 c5
    refine vv_iload_n hC dX4_saw_14 rfl 2 rfl ?_
    refine vv_iconst hC dX4_saw_15 ic_0 ?_
    refine vv_sipush hC dX4_saw_16 sp_999 ?_
    refine vv_callSi hC hR hK hRo hRm [.int v2, .int 0, .int 999] [] (met_X4_isIn (vL C) D ac ad Ex hLay hEx v2 0 999 μ3 _ h) gw4_345 mf_X4_isIn rfl rfl rfl dX4_saw_19 (fun r7 μ6 h => ?_)
    refine vv_if_eq (tgt := 44) hC dX4_saw_22 rfl (fun c8 => ?_) (fun c8 => ?_)
    · replace h := h.1 c8
      refine vv_iconst hC dX4_saw_44 ic_m1 ?_
      exact vv_iret hC hM dX4_saw_45 h
    · replace h := h.2 c8
      refine vv_aload_n hC dX4_saw_25 rfl 0 rfl ?_
      refine vv_iconst hC dX4_saw_26 ic_2 ?_
      refine vv_iload_n hC dX4_saw_27 rfl 1 rfl ?_
      refine vv_iload_n hC dX4_saw_28 rfl 2 rfl ?_
      refine vv_iload_n hC dX4_saw_29 rfl 3 rfl ?_
      refine vv_if_eq (tgt := 37) hC dX4_saw_30 rfl (fun c9 => ?_) (fun c9 => ?_)
      · replace h := h.1 c9
        refine vv_iconst hC dX4_saw_37 ic_0 ?_
        refine vv_lv [] rfl ?_
        exact L38  _ _ _ _ _ h
      · replace h := h.2 c9
        refine vv_iconst hC dX4_saw_33 ic_1 ?_
        refine vv_goto (tgt := 38) hC dX4_saw_34 rfl ?_
        refine vv_lv [] rfl ?_
        exact L38  _ _ _ _ _ h
def w_X4_link_38 (s0 : Int32) (s1 : Int32) (s2 : Int32) (s3 : Int32) (μ : WS) (Q : Int32 → WS → Prop) : Prop := (w_X4_fact s3 s2 s1 s0 μ (fun r10 μ9 => Q r10 μ9))
def w_X4_link (v1 : Int32) (v2 : Int32) (v3 : Int32) (μ : WS) (Q : Int32 → WS → Prop) : Prop := (w_X4_isIn v1 0 7 μ (fun r2 μ1 => ((r2 = 0) → Q (-1) μ1) ∧ ((¬ r2 = 0) → (w_X4_isIn v2 0 7 μ1 (fun r5 μ4 => ((r5 = 0) → Q (-1) μ4) ∧ ((¬ r5 = 0) → ((v1 = v2) → Q (-1) μ4) ∧ ((¬ v1 = v2) → ((v3 = 0) → w_X4_link_38 0 v2 v1 3 μ4 Q) ∧ ((¬ v3 = 0) → w_X4_link_38 1 v2 v1 3 μ4 Q))))))))
abbrev rm_X4_link : Room := { frames := 1, cells := 0, slots := 0, locals := 24 }
theorem mf_X4_link : MFact yX4_link 3 rm_X4_link := ⟨by decide +kernel, rfl, rfl⟩
set_option maxHeartbeats 4000000 in
theorem met_X4_link (l : Launch) (D : va_G) (ac : Nat → ClassId) (ad : Nat → Nat) (Ex : Heap → Prop) (hLay : LayOk ad knM) (hEx : ExOk ad knM Ex) (v1 : Int32) (v2 : Int32) (v3 : Int32) (μ : WS) (Q : Int32 → WS → Prop) (h : w_X4_link v1 v2 v3 μ Q) : CMet l yX4_link cX4_link 4 (some .int) rm_X4_link D ac ad knM Ex [.ref (ad 0), .int v1, .int v2, .int v3] μ (qI Q) := by
  refine vv_met (lv := [(0, .ref (ad 0)), (1, .int v1), (2, .int v2), (3, .int v3)]) (by decide) hLay hEx (Nat.le_of_ble_eq_true rfl) rfl ⟨rfl, rfl⟩ (fun C hC hK hRm hLl hR hM => ?_)
  subst hLl
  have hRo : RoomOk (HPW D ac ad knM Ex (vS C)) (vR C) := HPW.room
  have L38 : ∀ (s0 : Int32) (s1 : Int32) (s2 : Int32) (s3 : Int32) (μ : WS), w_X4_link_38  s0 s1 s2 s3 μ Q → VV C 4 (HPW D ac ad knM Ex (vS C)) (vQ C (QcW D ac ad knM (qI Q)) 0 0 (inLay ad knM)) (μ, ()) 38 [] [.int s0, .int s1, .int s2, .int s3, .ref (ad 0)] := by
    intro  s0 s1 s2 s3 μ h
    unfold w_X4_link_38 at h
    refine vv_callVi hC hR hK hRo hRm [.int s3, .int s2, .int s1, .int s0] [] (met_X4_fact (vL C) D ac ad Ex hLay hEx s3 s2 s1 s0 μ _ h) gw4_423 mf_X4_fact rfl lm_0 rfl rfl rfl rfl dX4_link_38 (fun r10 μ9 h => ?_)
    refine vv_goto (tgt := 45) hC dX4_link_41 rfl ?_
    exact vv_iret hC hM dX4_link_45 h
  unfold w_X4_link at h
  refine vv_iload_n hC dX4_link_0 rfl 1 rfl ?_
  refine vv_iconst hC dX4_link_1 ic_0 ?_
  refine vv_bipush hC dX4_link_2 bp_7 ?_
  refine vv_callSi hC hR hK hRo hRm [.int v1, .int 0, .int 7] [] (met_X4_isIn (vL C) D ac ad Ex hLay hEx v1 0 7 μ _ h) gw4_345 mf_X4_isIn rfl rfl rfl dX4_link_4 (fun r2 μ1 h => ?_)
  refine vv_if_eq (tgt := 44) hC dX4_link_7 rfl (fun c3 => ?_) (fun c3 => ?_)
  · replace h := h.1 c3
    refine vv_iconst hC dX4_link_44 ic_m1 ?_
    exact vv_iret hC hM dX4_link_45 h
  · replace h := h.2 c3
    refine vv_iload_n hC dX4_link_10 rfl 2 rfl ?_
    refine vv_iconst hC dX4_link_11 ic_0 ?_
    refine vv_bipush hC dX4_link_12 bp_7 ?_
    refine vv_callSi hC hR hK hRo hRm [.int v2, .int 0, .int 7] [] (met_X4_isIn (vL C) D ac ad Ex hLay hEx v2 0 7 μ1 _ h) gw4_345 mf_X4_isIn rfl rfl rfl dX4_link_14 (fun r5 μ4 h => ?_)
    refine vv_if_eq (tgt := 44) hC dX4_link_17 rfl (fun c6 => ?_) (fun c6 => ?_)
    · replace h := h.1 c6
      refine vv_iconst hC dX4_link_44 ic_m1 ?_
      exact vv_iret hC hM dX4_link_45 h
    · replace h := h.2 c6
      refine vv_iload_n hC dX4_link_20 rfl 1 rfl ?_
      refine vv_iload_n hC dX4_link_21 rfl 2 rfl ?_
      refine vv_icmp_eq (tgt := 44) hC dX4_link_22 rfl (fun c7 => ?_) (fun c7 => ?_)
      · replace h := h.1 c7
        refine vv_iconst hC dX4_link_44 ic_m1 ?_
        exact vv_iret hC hM dX4_link_45 h
      · replace h := h.2 c7
        refine vv_aload_n hC dX4_link_25 rfl 0 rfl ?_
        refine vv_iconst hC dX4_link_26 ic_3 ?_
        refine vv_iload_n hC dX4_link_27 rfl 1 rfl ?_
        refine vv_iload_n hC dX4_link_28 rfl 2 rfl ?_
        refine vv_iload_n hC dX4_link_29 rfl 3 rfl ?_
        refine vv_if_eq (tgt := 37) hC dX4_link_30 rfl (fun c8 => ?_) (fun c8 => ?_)
        · replace h := h.1 c8
          refine vv_iconst hC dX4_link_37 ic_0 ?_
          refine vv_lv [] rfl ?_
          exact L38  _ _ _ _ _ h
        · replace h := h.2 c8
          refine vv_iconst hC dX4_link_33 ic_1 ?_
          refine vv_goto (tgt := 38) hC dX4_link_34 rfl ?_
          refine vv_lv [] rfl ?_
          exact L38  _ _ _ _ _ h
