set_option maxRecDepth 100000
theorem xbp_m2 : (Int8.ofInt (-2)).toInt32 = (-2) := by decide
theorem xvin_0_5 : vp_in 0 5 := by unfold vp_in; decide
theorem fxX0_121_X0 : FAcc RX0 121 0 31 16 .int false := ⟨RX0, TX0, tyX0, rfl, by decide, in_X0, q347, tyX0_ok, nmX0, rfl, rfl⟩
theorem fxX0_46_X0 : FAcc RX0 46 0 31 12 (.array .int) true := ⟨RX0, TX0, tyX0, rfl, by decide, in_X0, q343, tyX0_ok, nmX0, rfl, rfl⟩
theorem fxX0_49_X0 : FAcc RX0 49 0 31 13 (.array .int) true := ⟨RX0, TX0, tyX0, rfl, by decide, in_X0, q344, tyX0_ok, nmX0, rfl, rfl⟩
theorem fxX0_52_X0 : FAcc RX0 52 0 31 14 (.array .int) true := ⟨RX0, TX0, tyX0, rfl, by decide, in_X0, q345, tyX0_ok, nmX0, rfl, rfl⟩
theorem fxX0_55_X0 : FAcc RX0 55 0 31 15 (.array .int) true := ⟨RX0, TX0, tyX0, rfl, by decide, in_X0, q346, tyX0_ok, nmX0, rfl, rfl⟩
theorem fxX0_58_X0 : FAcc RX0 58 0 31 17 (.array .int) true := ⟨RX0, TX0, tyX0, rfl, by decide, in_X0, q348, tyX0_ok, nmX0, rfl, rfl⟩
theorem fxX0_63_X0 : FAcc RX0 63 0 31 18 (.array (.array .int)) true := ⟨RX0, TX0, tyX0, rfl, by decide, in_X0, q349, tyX0_ok, nmX0, rfl, rfl⟩
theorem fxX0_66_X0 : FAcc RX0 66 0 31 19 (.array (.array .int)) true := ⟨RX0, TX0, tyX0, rfl, by decide, in_X0, q350, tyX0_ok, nmX0, rfl, rfl⟩
theorem gxX0_251 : GoodIn lw_all (wsV RX0 251 RX0 yX0_kinOf (ws_ yX0_kinOf cX0_kinOf 5 (some .int))) := lw_V q1313 q1315 qs39 q109 q1316
theorem gxX0_255 : GoodIn lw_all (wsV RX0 255 RX0 yX0_hasMark (ws_ yX0_hasMark cX0_hasMark 3 (some .boolean))) := lw_V q1321 q1323 qs40 q109 q1324
theorem gxX0_259 : GoodIn lw_all (wsV RX0 259 RX0 yX0_layShares (ws_ yX0_layShares cX0_layShares 7 none)) := lw_V q1329 q1331 qs41 q109 q1332
theorem gxX0_264 : GoodIn lw_all (wsV RX0 264 RX0 yX0_tells (ws_ yX0_tells cX0_tells 5 (some .boolean))) := lw_V q1354 q1356 qs42 q109 q1357
theorem gxX0_267 : GoodIn lw_all (wsV RX0 267 RX0 yX0_put (ws_ yX0_put cX0_put 2 none)) := lw_V q1358 q1360 qs43 q109 q1361
def w_X0_fades_39b (S : XS) (P39 : Int32 → Int32 → Int32 → Int32 → WS → Prop) (v2 : Int32) (v3 : Int32) (v4 : Int32) (v5 : Int32) (μ : WS) (Q : Int32 → WS → Prop) : Prop := (w_X0_rows S μ (fun r12 μ11 => ((r12 < v5) → Q (-1) μ11) ∧ ((¬ r12 < v5) → ((¬ v4 = 0) → (w_X0_castOf S v4 v2 v3 μ11 (fun r16 μ15 => P39 v2 v3 r16 (v5 + 1) μ15))) ∧ ((v4 = 0) → Q v5 μ11))))
def w_X0_fades_39 (S : XS) (v2 : Int32) (v3 : Int32) (v4 : Int32) (v5 : Int32) (μ : WS) (Q : Int32 → WS → Prop) : Prop := ∀ P39 : Int32 → Int32 → Int32 → Int32 → WS → Prop, (∀ (v2 : Int32) (v3 : Int32) (v4 : Int32) (v5 : Int32) (μ : WS), w_X0_fades_39b S  P39 v2 v3 v4 v5 μ Q → P39 v2 v3 v4 v5 μ) → P39 v2 v3 v4 v5 μ
def w_X0_fades (S : XS) (v1 : Int32) (v2 : Int32) (v3 : Int32) (μ : WS) (Q : Int32 → WS → Prop) : Prop := (w_X0_isSeal S v1 μ (fun r2 μ1 => ((r2 = 0) → Q (-1) μ1) ∧ ((¬ r2 = 0) → (w_X0_isHand S v2 μ1 (fun r5 μ4 => ((r5 = 0) → Q (-1) μ4) ∧ ((¬ r5 = 0) → (w_X0_isHeat S v3 μ4 (fun r8 μ7 => ((¬ r8 = 0) → (vp_in v1 24 ∧ (∀ x10 : Int32, x10 = μ7.1 1001 v1.toNatClampNeg → w_X0_fades_39 S v2 v3 x10 0 μ7 Q))) ∧ ((r8 = 0) → Q (-1) μ7)))))))))
abbrev rm_X0_fades : Room := { frames := 1703, cells := 0, slots := 0, locals := 51083 }
theorem mf_X0_fades : MFact yX0_fades 3 rm_X0_fades := ⟨by decide +kernel, rfl, rfl⟩
set_option maxHeartbeats 4000000 in
theorem met_X0_fades (l : Launch) (D : va_G) (ac : Nat → ClassId) (ad : Nat → Nat) (S : XS) (hLay : LayOk ad (knX S)) (v1 : Int32) (v2 : Int32) (v3 : Int32) (μ : WS) (Q : Int32 → WS → Prop) (h : w_X0_fades S v1 v2 v3 μ Q) : CMet l yX0_fades cX0_fades 6 (some .int) rm_X0_fades D ac ad (knX S) (ExX D ac ad S) [.ref (ad 0), .int v1, .int v2, .int v3] μ (qI Q) := by
  refine vv_met (lv := [(0, .ref (ad 0)), (1, .int v1), (2, .int v2), (3, .int v3)]) (by decide) hLay exX_ok (Nat.le_of_ble_eq_true rfl) rfl ⟨rfl, rfl⟩ (fun C hC hK hRm hLl hR hM => ?_)
  subst hLl
  have hRo : RoomOk (HPW D ac ad (knX S) (ExX D ac ad S) (vS C)) (vR C) := HPW.room
  have L39 : ∀ (v2 : Int32) (v3 : Int32) (v4 : Int32) (v5 : Int32) (μ : WS), w_X0_fades_39 S  v2 v3 v4 v5 μ Q → VV C 6 (HPW D ac ad (knX S) (ExX D ac ad S) (vS C)) (vQ C (QcW D ac ad (knX S) (qI Q)) 0 0 (inLay ad (knX S))) (μ, ()) 39 [(0, .ref (ad 0)), (2, .int v2), (3, .int v3), (4, .int v4), (5, .int v5)] [] := by
    intro  v2 v3 v4 v5 μ h
    refine h (fun v2 v3 v4 v5 μ => VV C 6 (HPW D ac ad (knX S) (ExX D ac ad S) (vS C)) (vQ C (QcW D ac ad (knX S) (qI Q)) 0 0 (inLay ad (knX S))) (μ, ()) 39 [(0, .ref (ad 0)), (2, .int v2), (3, .int v3), (4, .int v4), (5, .int v5)] []) ?_
    clear h; intro v2 v3 v4 v5 μ h
    have h39 : ∀ (v2 : Int32) (v3 : Int32) (v4 : Int32) (v5 : Int32) (μ : WS), (fun v2 v3 v4 v5 (μ : WS) => VV C 6 (HPW D ac ad (knX S) (ExX D ac ad S) (vS C)) (vQ C (QcW D ac ad (knX S) (qI Q)) 0 0 (inLay ad (knX S))) (μ, ()) 39 [(0, .ref (ad 0)), (2, .int v2), (3, .int v3), (4, .int v4), (5, .int v5)] []) v2 v3 v4 v5 μ → VV C 6 (HPW D ac ad (knX S) (ExX D ac ad S) (vS C)) (vQ C (QcW D ac ad (knX S) (qI Q)) 0 0 (inLay ad (knX S))) (μ, ()) 39 [(0, .ref (ad 0)), (2, .int v2), (3, .int v3), (4, .int v4), (5, .int v5)] [] := fun _ _ _ _ _ h => h
    unfold w_X0_fades_39b at h
    refine vv_iload hC dX0_fades_39 4 rfl ?_
    refine vv_aload_n hC dX0_fades_41 rfl 0 rfl ?_
    refine vv_callVi hC hR hK hRo hRm [] [.int v5] (met_X0_rows (vL C) D ac ad S hLay  μ _ h) gxX0_157 mf_X0_rows rfl (lx_0 S) rfl rfl rfl rfl dX0_fades_42 (fun r12 μ11 h => ?_)
    refine vv_icmp_gt (tgt := 72) hC dX0_fades_45 rfl (fun c13 => ?_) (fun c13 => ?_)
    · replace h := h.1 c13
      refine vv_iconst hC dX0_fades_72 xic_m1 ?_
      exact vv_iret hC hM dX0_fades_73 h
    · replace h := h.2 c13
      refine vv_iload hC dX0_fades_48 3 rfl ?_
      refine vv_if_ne (tgt := 56) hC dX0_fades_50 rfl (fun c14 => ?_) (fun c14 => ?_)
      · replace h := h.1 c14
        refine vv_aload_n hC dX0_fades_56 rfl 0 rfl ?_
        refine vv_iload hC dX0_fades_57 3 rfl ?_
        refine vv_iload_n hC dX0_fades_59 rfl 1 rfl ?_
        refine vv_iload_n hC dX0_fades_60 rfl 2 rfl ?_
        refine vv_callVi hC hR hK hRo hRm [.int v4, .int v2, .int v3] [] (met_X0_castOf (vL C) D ac ad S hLay v4 v2 v3 μ11 _ h) gxX0_236 mf_X0_castOf rfl (lx_0 S) rfl rfl rfl rfl dX0_fades_61 (fun r16 μ15 h => ?_)
        refine vv_istore (lv' := [(4, .int r16), (0, .ref (ad 0)), (2, .int v2), (3, .int v3), (5, .int v5)]) hC dX0_fades_64 (by decide) rfl ?_
        refine vv_iinc (pl := 4) (v := v5 + 1) (lv' := [(5, .int (v5 + 1)), (4, .int r16), (0, .ref (ad 0)), (2, .int v2), (3, .int v3)]) hC dX0_fades_66 rfl rfl (by decide) rfl ?_
        refine vv_goto (tgt := 39) hC dX0_fades_69 rfl ?_
        refine vv_lv [2, 3, 4, 1, 0] rfl ?_
        exact h39 _ _ _ _ _ h
      · replace h := h.2 c14
        refine vv_iload hC dX0_fades_53 4 rfl ?_
        exact vv_iret hC hM dX0_fades_55 h
  unfold w_X0_fades at h
  refine vv_aload_n hC dX0_fades_0 rfl 0 rfl ?_
  refine vv_iload_n hC dX0_fades_1 rfl 1 rfl ?_
  refine vv_callVi hC hR hK hRo hRm [.int v1] [] (met_X0_isSeal (vL C) D ac ad S hLay v1 μ _ h) gxX0_160 mf_X0_isSeal rfl (lx_0 S) rfl rfl rfl rfl dX0_fades_2 (fun r2 μ1 h => ?_)
  refine vv_if_eq (tgt := 23) hC dX0_fades_5 rfl (fun c3 => ?_) (fun c3 => ?_)
  · replace h := h.1 c3
    refine vv_iconst hC dX0_fades_23 xic_m1 ?_
    exact vv_iret hC hM dX0_fades_24 h
  · replace h := h.2 c3
    refine vv_aload_n hC dX0_fades_8 rfl 0 rfl ?_
    refine vv_iload_n hC dX0_fades_9 rfl 2 rfl ?_
    refine vv_callVi hC hR hK hRo hRm [.int v2] [] (met_X0_isHand (vL C) D ac ad S hLay v2 μ1 _ h) gxX0_204 mf_X0_isHand rfl (lx_0 S) rfl rfl rfl rfl dX0_fades_10 (fun r5 μ4 h => ?_)
    refine vv_if_eq (tgt := 23) hC dX0_fades_13 rfl (fun c6 => ?_) (fun c6 => ?_)
    · replace h := h.1 c6
      refine vv_iconst hC dX0_fades_23 xic_m1 ?_
      exact vv_iret hC hM dX0_fades_24 h
    · replace h := h.2 c6
      refine vv_iload_n hC dX0_fades_16 rfl 3 rfl ?_
      refine vv_callSi hC hR hK hRo hRm [.int v3] [] (met_X0_isHeat (vL C) D ac ad S hLay v3 μ4 _ h) gxX0_207 mf_X0_isHeat rfl rfl rfl dX0_fades_17 (fun r8 μ7 h => ?_)
      refine vv_if_ne (tgt := 25) hC dX0_fades_20 rfl (fun c9 => ?_) (fun c9 => ?_)
      · replace h := h.1 c9
        refine vv_aload_n hC dX0_fades_25 rfl 0 rfl ?_
        refine vv_getf hC hR hK fxX0_31_X0 0 (lx_0 S) rfl dX0_fades_26 ?_
        refine vv_getf hC hR hK fxX0_164_X3 1000 (lx_1000 S) rfl dX0_fades_29 ?_
        refine vv_iload_n hC dX0_fades_32 rfl 1 rfl ?_
        obtain ⟨hin199, h⟩ := h
        refine vv_iald hC hR hK 1001 (lx_1001 S) hin199 dX0_fades_33 ?_
        refine vv_topi (fun x10 ex10 => ?_)
        replace h := h x10 ex10
        refine vv_istore (lv' := [(4, .int x10), (0, .ref (ad 0)), (1, .int v1), (2, .int v2), (3, .int v3)]) hC dX0_fades_34 (by decide) rfl ?_
        refine vv_iconst hC dX0_fades_36 xic_0 ?_
        refine vv_istore (lv' := [(5, .int 0), (4, .int x10), (0, .ref (ad 0)), (1, .int v1), (2, .int v2), (3, .int v3)]) hC dX0_fades_37 (by decide) rfl ?_
        refine vv_lv [2, 4, 5, 1, 0] rfl ?_
        exact L39  _ _ _ _ _ h
      · replace h := h.2 c9
        refine vv_iconst hC dX0_fades_23 xic_m1 ?_
        exact vv_iret hC hM dX0_fades_24 h
def w_X0_kinOf_5b (S : XS) (P5 : Int32 → Int32 → WS → Prop) (v3 : Int32) (v4 : Int32) (μ : WS) (Q : Int32 → WS → Prop) : Prop := ((v3 = v4) → Q v3 μ) ∧ ((¬ v3 = v4) → ((v3 ≤ v4) → (vp_in v4 24 ∧ (∀ x3 : Int32, x3 = μ.1 1002 v4.toNatClampNeg → P5 v3 x3 μ))) ∧ ((¬ v3 ≤ v4) → (vp_in v3 24 ∧ (∀ x4 : Int32, x4 = μ.1 1002 v3.toNatClampNeg → P5 x4 v4 μ))))
def w_X0_kinOf_5 (S : XS) (v3 : Int32) (v4 : Int32) (μ : WS) (Q : Int32 → WS → Prop) : Prop := ∀ P5 : Int32 → Int32 → WS → Prop, (∀ (v3 : Int32) (v4 : Int32) (μ : WS), w_X0_kinOf_5b S  P5 v3 v4 μ Q → P5 v3 v4 μ) → P5 v3 v4 μ
def w_X0_kinOf (S : XS) (v1 : Int32) (v2 : Int32) (μ : WS) (Q : Int32 → WS → Prop) : Prop := w_X0_kinOf_5 S v1 v2 μ Q
abbrev rm_X0_kinOf : Room := { frames := 0, cells := 0, slots := 0, locals := 0 }
theorem mf_X0_kinOf : MFact yX0_kinOf 2 rm_X0_kinOf := ⟨by decide +kernel, rfl, rfl⟩
set_option maxHeartbeats 4000000 in
theorem met_X0_kinOf (l : Launch) (D : va_G) (ac : Nat → ClassId) (ad : Nat → Nat) (S : XS) (hLay : LayOk ad (knX S)) (v1 : Int32) (v2 : Int32) (μ : WS) (Q : Int32 → WS → Prop) (h : w_X0_kinOf S v1 v2 μ Q) : CMet l yX0_kinOf cX0_kinOf 5 (some .int) rm_X0_kinOf D ac ad (knX S) (ExX D ac ad S) [.ref (ad 0), .int v1, .int v2] μ (qI Q) := by
  refine vv_met (lv := [(0, .ref (ad 0)), (1, .int v1), (2, .int v2)]) (by decide) hLay exX_ok (Nat.le_of_ble_eq_true rfl) rfl ⟨rfl, rfl⟩ (fun C hC hK hRm hLl hR hM => ?_)
  subst hLl
  have hRo : RoomOk (HPW D ac ad (knX S) (ExX D ac ad S) (vS C)) (vR C) := HPW.room
  have L5 : ∀ (v3 : Int32) (v4 : Int32) (μ : WS), w_X0_kinOf_5 S  v3 v4 μ Q → VV C 5 (HPW D ac ad (knX S) (ExX D ac ad S) (vS C)) (vQ C (QcW D ac ad (knX S) (qI Q)) 0 0 (inLay ad (knX S))) (μ, ()) 5 [(0, .ref (ad 0)), (3, .int v3), (4, .int v4)] [] := by
    intro  v3 v4 μ h
    refine h (fun v3 v4 μ => VV C 5 (HPW D ac ad (knX S) (ExX D ac ad S) (vS C)) (vQ C (QcW D ac ad (knX S) (qI Q)) 0 0 (inLay ad (knX S))) (μ, ()) 5 [(0, .ref (ad 0)), (3, .int v3), (4, .int v4)] []) ?_
    clear h; intro v3 v4 μ h
    have h5 : ∀ (v3 : Int32) (v4 : Int32) (μ : WS), (fun v3 v4 (μ : WS) => VV C 5 (HPW D ac ad (knX S) (ExX D ac ad S) (vS C)) (vQ C (QcW D ac ad (knX S) (qI Q)) 0 0 (inLay ad (knX S))) (μ, ()) 5 [(0, .ref (ad 0)), (3, .int v3), (4, .int v4)] []) v3 v4 μ → VV C 5 (HPW D ac ad (knX S) (ExX D ac ad S) (vS C)) (vQ C (QcW D ac ad (knX S) (qI Q)) 0 0 (inLay ad (knX S))) (μ, ()) 5 [(0, .ref (ad 0)), (3, .int v3), (4, .int v4)] [] := fun _ _ _ h => h
    unfold w_X0_kinOf_5b at h
    refine vv_iload_n hC dX0_kinOf_5 rfl 1 rfl ?_
    refine vv_iload hC dX0_kinOf_6 2 rfl ?_
    refine vv_icmp_eq (tgt := 45) hC dX0_kinOf_8 rfl (fun c1 => ?_) (fun c1 => ?_)
    · replace h := h.1 c1
      refine vv_iload_n hC dX0_kinOf_45 rfl 1 rfl ?_
      exact vv_iret hC hM dX0_kinOf_46 h
    · replace h := h.2 c1
      refine vv_iload_n hC dX0_kinOf_11 rfl 1 rfl ?_
      refine vv_iload hC dX0_kinOf_12 2 rfl ?_
      refine vv_icmp_le (tgt := 30) hC dX0_kinOf_14 rfl (fun c2 => ?_) (fun c2 => ?_)
      · replace h := h.1 c2
        refine vv_aload_n hC dX0_kinOf_30 rfl 0 rfl ?_
        refine vv_getf hC hR hK fxX0_31_X0 0 (lx_0 S) rfl dX0_kinOf_31 ?_
        refine vv_getf hC hR hK fxX0_167_X3 1000 (lx_1000 S) rfl dX0_kinOf_34 ?_
        refine vv_iload hC dX0_kinOf_37 2 rfl ?_
        obtain ⟨hin200, h⟩ := h
        refine vv_iald hC hR hK 1002 (lx_1002 S) hin200 dX0_kinOf_39 ?_
        refine vv_topi (fun x3 ex3 => ?_)
        replace h := h x3 ex3
        refine vv_istore (lv' := [(4, .int x3), (0, .ref (ad 0)), (3, .int v3)]) hC dX0_kinOf_40 (by decide) rfl ?_
        refine vv_goto (tgt := 5) hC dX0_kinOf_42 rfl ?_
        refine vv_lv [1, 2, 0] rfl ?_
        exact h5 _ _ _ h
      · replace h := h.2 c2
        refine vv_aload_n hC dX0_kinOf_17 rfl 0 rfl ?_
        refine vv_getf hC hR hK fxX0_31_X0 0 (lx_0 S) rfl dX0_kinOf_18 ?_
        refine vv_getf hC hR hK fxX0_167_X3 1000 (lx_1000 S) rfl dX0_kinOf_21 ?_
        refine vv_iload_n hC dX0_kinOf_24 rfl 1 rfl ?_
        obtain ⟨hin201, h⟩ := h
        refine vv_iald hC hR hK 1002 (lx_1002 S) hin201 dX0_kinOf_25 ?_
        refine vv_topi (fun x4 ex4 => ?_)
        replace h := h x4 ex4
        refine vv_istore_n (lv' := [(3, .int x4), (0, .ref (ad 0)), (4, .int v4)]) hC dX0_kinOf_26 rfl (by decide) rfl ?_
        refine vv_goto (tgt := 5) hC dX0_kinOf_27 rfl ?_
        refine vv_lv [1, 0, 2] rfl ?_
        exact h5 _ _ _ h
  unfold w_X0_kinOf at h
  refine vv_iload_n hC dX0_kinOf_0 rfl 1 rfl ?_
  refine vv_istore_n (lv' := [(3, .int v1), (0, .ref (ad 0)), (1, .int v1), (2, .int v2)]) hC dX0_kinOf_1 rfl (by decide) rfl ?_
  refine vv_iload_n hC dX0_kinOf_2 rfl 3 rfl ?_
  refine vv_istore (lv' := [(4, .int v2), (3, .int v1), (0, .ref (ad 0)), (1, .int v1), (2, .int v2)]) hC dX0_kinOf_3 (by decide) rfl ?_
  refine vv_lv [2, 1, 0] rfl ?_
  exact L5  _ _ _ h
def w_X0_kin (S : XS) (v1 : Int32) (v2 : Int32) (v3 : Int32) (μ : WS) (Q : Int32 → WS → Prop) : Prop := (w_X0_isSeal S v1 μ (fun r2 μ1 => ((r2 = 0) → Q (-1) μ1) ∧ ((¬ r2 = 0) → (w_X0_isSeal S v2 μ1 (fun r5 μ4 => ((r5 = 0) → Q (-1) μ4) ∧ ((¬ r5 = 0) → (w_X0_isIn S v3 0 1 μ4 (fun r8 μ7 => ((¬ r8 = 0) → (w_X0_kinOf S v1 v2 μ7 (fun r11 μ10 => ((¬ v3 = 0) → (w_X3_castsFrom S v1 μ10 (fun r14 μ13 => (w_X3_castsFrom S v2 μ13 (fun r16 μ15 => (w_X3_castsFrom S r11 μ15 (fun r18 μ17 => Q ((r14 + r16) - (2 * r18)) μ17))))))) ∧ ((v3 = 0) → Q r11 μ10)))) ∧ ((r8 = 0) → Q (-1) μ7)))))))))
abbrev rm_X0_kin : Room := { frames := 2, cells := 0, slots := 0, locals := 43 }
theorem mf_X0_kin : MFact yX0_kin 3 rm_X0_kin := ⟨by decide +kernel, rfl, rfl⟩
set_option maxHeartbeats 4000000 in
theorem met_X0_kin (l : Launch) (D : va_G) (ac : Nat → ClassId) (ad : Nat → Nat) (S : XS) (hLay : LayOk ad (knX S)) (v1 : Int32) (v2 : Int32) (v3 : Int32) (μ : WS) (Q : Int32 → WS → Prop) (h : w_X0_kin S v1 v2 v3 μ Q) : CMet l yX0_kin cX0_kin 5 (some .int) rm_X0_kin D ac ad (knX S) (ExX D ac ad S) [.ref (ad 0), .int v1, .int v2, .int v3] μ (qI Q) := by
  refine vv_met (lv := [(0, .ref (ad 0)), (1, .int v1), (2, .int v2), (3, .int v3)]) (by decide) hLay exX_ok (Nat.le_of_ble_eq_true rfl) rfl ⟨rfl, rfl⟩ (fun C hC hK hRm hLl hR hM => ?_)
  subst hLl
  have hRo : RoomOk (HPW D ac ad (knX S) (ExX D ac ad S) (vS C)) (vR C) := HPW.room
  unfold w_X0_kin at h
  refine vv_aload_n hC dX0_kin_0 rfl 0 rfl ?_
  refine vv_iload_n hC dX0_kin_1 rfl 1 rfl ?_
  refine vv_callVi hC hR hK hRo hRm [.int v1] [] (met_X0_isSeal (vL C) D ac ad S hLay v1 μ _ h) gxX0_160 mf_X0_isSeal rfl (lx_0 S) rfl rfl rfl rfl dX0_kin_2 (fun r2 μ1 h => ?_)
  refine vv_if_eq (tgt := 25) hC dX0_kin_5 rfl (fun c3 => ?_) (fun c3 => ?_)
  · replace h := h.1 c3
    refine vv_iconst hC dX0_kin_25 xic_m1 ?_
    exact vv_iret hC hM dX0_kin_26 h
  · replace h := h.2 c3
    refine vv_aload_n hC dX0_kin_8 rfl 0 rfl ?_
    refine vv_iload_n hC dX0_kin_9 rfl 2 rfl ?_
    refine vv_callVi hC hR hK hRo hRm [.int v2] [] (met_X0_isSeal (vL C) D ac ad S hLay v2 μ1 _ h) gxX0_160 mf_X0_isSeal rfl (lx_0 S) rfl rfl rfl rfl dX0_kin_10 (fun r5 μ4 h => ?_)
    refine vv_if_eq (tgt := 25) hC dX0_kin_13 rfl (fun c6 => ?_) (fun c6 => ?_)
    · replace h := h.1 c6
      refine vv_iconst hC dX0_kin_25 xic_m1 ?_
      exact vv_iret hC hM dX0_kin_26 h
    · replace h := h.2 c6
      refine vv_iload_n hC dX0_kin_16 rfl 3 rfl ?_
      refine vv_iconst hC dX0_kin_17 xic_0 ?_
      refine vv_iconst hC dX0_kin_18 xic_1 ?_
      refine vv_callSi hC hR hK hRo hRm [.int v3, .int 0, .int 1] [] (met_X0_isIn (vL C) D ac ad S hLay v3 0 1 μ4 _ h) gxX0_150 mf_X0_isIn rfl rfl rfl dX0_kin_19 (fun r8 μ7 h => ?_)
      refine vv_if_ne (tgt := 27) hC dX0_kin_22 rfl (fun c9 => ?_) (fun c9 => ?_)
      · replace h := h.1 c9
        refine vv_aload_n hC dX0_kin_27 rfl 0 rfl ?_
        refine vv_iload_n hC dX0_kin_28 rfl 1 rfl ?_
        refine vv_iload_n hC dX0_kin_29 rfl 2 rfl ?_
        refine vv_callVi hC hR hK hRo hRm [.int v1, .int v2] [] (met_X0_kinOf (vL C) D ac ad S hLay v1 v2 μ7 _ h) gxX0_251 mf_X0_kinOf rfl (lx_0 S) rfl rfl rfl rfl dX0_kin_30 (fun r11 μ10 h => ?_)
        refine vv_istore (lv' := [(4, .int r11), (0, .ref (ad 0)), (1, .int v1), (2, .int v2), (3, .int v3)]) hC dX0_kin_33 (by decide) rfl ?_
        refine vv_iload_n hC dX0_kin_35 rfl 4 rfl ?_
        refine vv_if_ne (tgt := 44) hC dX0_kin_36 rfl (fun c12 => ?_) (fun c12 => ?_)
        · replace h := h.1 c12
          refine vv_aload_n hC dX0_kin_44 rfl 1 rfl ?_
          refine vv_getf hC hR hK fxX0_31_X0 0 (lx_0 S) rfl dX0_kin_45 ?_
          refine vv_iload_n hC dX0_kin_48 rfl 2 rfl ?_
          refine vv_callVi hC hR hK hRo hRm [.int v1] [] (met_X3_castsFrom (vL C) D ac ad S hLay v1 μ10 _ h) gxX0_176 mf_X3_castsFrom rfl (lx_1000 S) rfl rfl rfl rfl dX0_kin_49 (fun r14 μ13 h => ?_)
          refine vv_aload_n hC dX0_kin_52 rfl 1 rfl ?_
          refine vv_getf hC hR hK fxX0_31_X0 0 (lx_0 S) rfl dX0_kin_53 ?_
          refine vv_iload_n hC dX0_kin_56 rfl 3 rfl ?_
          refine vv_callVi hC hR hK hRo hRm [.int v2] [.int r14] (met_X3_castsFrom (vL C) D ac ad S hLay v2 μ13 _ h) gxX0_176 mf_X3_castsFrom rfl (lx_1000 S) rfl rfl rfl rfl dX0_kin_57 (fun r16 μ15 h => ?_)
          refine vv_iadd hC dX0_kin_60 ?_
          refine vv_iconst hC dX0_kin_61 xic_2 ?_
          refine vv_aload_n hC dX0_kin_62 rfl 1 rfl ?_
          refine vv_getf hC hR hK fxX0_31_X0 0 (lx_0 S) rfl dX0_kin_63 ?_
          refine vv_iload hC dX0_kin_66 0 rfl ?_
          refine vv_callVi hC hR hK hRo hRm [.int r11] [.int 2, .int (r14 + r16)] (met_X3_castsFrom (vL C) D ac ad S hLay r11 μ15 _ h) gxX0_176 mf_X3_castsFrom rfl (lx_1000 S) rfl rfl rfl rfl dX0_kin_68 (fun r18 μ17 h => ?_)
          refine vv_imul hC dX0_kin_71 ?_
          refine vv_isub hC dX0_kin_72 ?_
          exact vv_iret hC hM dX0_kin_73 h
        · replace h := h.2 c12
          refine vv_iload hC dX0_kin_39 0 rfl ?_
          refine vv_goto (tgt := 73) hC dX0_kin_41 rfl ?_
          exact vv_iret hC hM dX0_kin_73 h
      · replace h := h.2 c9
        refine vv_iconst hC dX0_kin_25 xic_m1 ?_
        exact vv_iret hC hM dX0_kin_26 h
def w_X0_hasMark (S : XS) (v1 : Int32) (v2 : Int32) (μ : WS) (Q : Int32 → WS → Prop) : Prop := (vp_in v1 24 ∧ ((¬ ((μ.1 1001 v1.toNatClampNeg) >>> (v2 &&& 31)) &&& 1 = 1) → Q 0 μ) ∧ ((((μ.1 1001 v1.toNatClampNeg) >>> (v2 &&& 31)) &&& 1 = 1) → Q 1 μ))
abbrev rm_X0_hasMark : Room := { frames := 0, cells := 0, slots := 0, locals := 0 }
theorem mf_X0_hasMark : MFact yX0_hasMark 2 rm_X0_hasMark := ⟨by decide +kernel, rfl, rfl⟩
set_option maxHeartbeats 4000000 in
theorem met_X0_hasMark (l : Launch) (D : va_G) (ac : Nat → ClassId) (ad : Nat → Nat) (S : XS) (hLay : LayOk ad (knX S)) (v1 : Int32) (v2 : Int32) (μ : WS) (Q : Int32 → WS → Prop) (h : w_X0_hasMark S v1 v2 μ Q) : CMet l yX0_hasMark cX0_hasMark 3 (some .boolean) rm_X0_hasMark D ac ad (knX S) (ExX D ac ad S) [.ref (ad 0), .int v1, .int v2] μ (qI Q) := by
  refine vv_met (lv := [(0, .ref (ad 0)), (1, .int v1), (2, .int v2)]) (by decide) hLay exX_ok (Nat.le_of_ble_eq_true rfl) rfl ⟨rfl, rfl⟩ (fun C hC hK hRm hLl hR hM => ?_)
  subst hLl
  have hRo : RoomOk (HPW D ac ad (knX S) (ExX D ac ad S) (vS C)) (vR C) := HPW.room
  unfold w_X0_hasMark at h
  refine vv_aload_n hC dX0_hasMark_0 rfl 0 rfl ?_
  refine vv_getf hC hR hK fxX0_31_X0 0 (lx_0 S) rfl dX0_hasMark_1 ?_
  refine vv_getf hC hR hK fxX0_164_X3 1000 (lx_1000 S) rfl dX0_hasMark_4 ?_
  refine vv_iload_n hC dX0_hasMark_7 rfl 1 rfl ?_
  obtain ⟨hin202, h⟩ := h
  refine vv_iald hC hR hK 1001 (lx_1001 S) hin202 dX0_hasMark_8 ?_
  refine vv_iload_n hC dX0_hasMark_9 rfl 2 rfl ?_
  refine vv_ishr hC dX0_hasMark_10 ?_
  refine vv_iconst hC dX0_hasMark_11 xic_1 ?_
  refine vv_iand hC dX0_hasMark_12 ?_
  refine vv_iconst hC dX0_hasMark_13 xic_1 ?_
  refine vv_icmp_ne (tgt := 21) hC dX0_hasMark_14 rfl (fun c1 => ?_) (fun c1 => ?_)
  · replace h := h.1 c1
    refine vv_iconst hC dX0_hasMark_21 xic_0 ?_
    exact vv_zret hC hM dX0_hasMark_22 isB_0 h
  · replace h := h.2 c1
    refine vv_iconst hC dX0_hasMark_17 xic_1 ?_
    refine vv_goto (tgt := 22) hC dX0_hasMark_18 rfl ?_
    exact vv_zret hC hM dX0_hasMark_22 isB_1 h
def w_X0_thumb_33b (S : XS) (P33 : Int32 → Int32 → WS → Prop) (v3 : Int32) (v4 : Int32) (μ : WS) (Q : Int32 → WS → Prop) : Prop := (vp_in v3 24 ∧ ((μ.1 1002 v3.toNatClampNeg < 0) → Q (-1) μ) ∧ ((¬ μ.1 1002 v3.toNatClampNeg < 0) → (∀ x11 : Int32, x11 = ((μ.1 104 2) - 1) - v4 → (vp_in v3 24 ∧ (w_X0_hasMark S (μ.1 1002 v3.toNatClampNeg) x11 μ (fun r13 μ12 => ((¬ r13 = 0) → (vp_in v3 24 ∧ (∀ x15 : Int32, x15 = μ12.1 1002 v3.toNatClampNeg → P33 x15 x11 μ12))) ∧ ((r13 = 0) → (vp_in v3 24 ∧ Q (μ12.1 1003 v3.toNatClampNeg) μ12))))))))
def w_X0_thumb_33 (S : XS) (v3 : Int32) (v4 : Int32) (μ : WS) (Q : Int32 → WS → Prop) : Prop := ∀ P33 : Int32 → Int32 → WS → Prop, (∀ (v3 : Int32) (v4 : Int32) (μ : WS), w_X0_thumb_33b S  P33 v3 v4 μ Q → P33 v3 v4 μ) → P33 v3 v4 μ
def w_X0_thumb (S : XS) (v1 : Int32) (v2 : Int32) (μ : WS) (Q : Int32 → WS → Prop) : Prop := (w_X0_isSeal S v1 μ (fun r2 μ1 => ((r2 = 0) → Q (-2) μ1) ∧ ((¬ r2 = 0) → (w_X0_isMark S v2 μ1 (fun r5 μ4 => ((r5 = 0) → Q (-2) μ4) ∧ ((¬ r5 = 0) → (w_X0_hasMark S v1 v2 μ4 (fun r8 μ7 => ((¬ r8 = 0) → w_X0_thumb_33 S v1 v2 μ7 Q) ∧ ((r8 = 0) → Q (-2) μ7)))))))))
abbrev rm_X0_thumb : Room := { frames := 2, cells := 0, slots := 0, locals := 43 }
theorem mf_X0_thumb : MFact yX0_thumb 2 rm_X0_thumb := ⟨by decide +kernel, rfl, rfl⟩
set_option maxHeartbeats 4000000 in
theorem met_X0_thumb (l : Launch) (D : va_G) (ac : Nat → ClassId) (ad : Nat → Nat) (S : XS) (hLay : LayOk ad (knX S)) (v1 : Int32) (v2 : Int32) (μ : WS) (Q : Int32 → WS → Prop) (h : w_X0_thumb S v1 v2 μ Q) : CMet l yX0_thumb cX0_thumb 5 (some .int) rm_X0_thumb D ac ad (knX S) (ExX D ac ad S) [.ref (ad 0), .int v1, .int v2] μ (qI Q) := by
  refine vv_met (lv := [(0, .ref (ad 0)), (1, .int v1), (2, .int v2)]) (by decide) hLay exX_ok (Nat.le_of_ble_eq_true rfl) rfl ⟨rfl, rfl⟩ (fun C hC hK hRm hLl hR hM => ?_)
  subst hLl
  have hRo : RoomOk (HPW D ac ad (knX S) (ExX D ac ad S) (vS C)) (vR C) := HPW.room
  have L33 : ∀ (v3 : Int32) (v4 : Int32) (μ : WS), w_X0_thumb_33 S  v3 v4 μ Q → VV C 5 (HPW D ac ad (knX S) (ExX D ac ad S) (vS C)) (vQ C (QcW D ac ad (knX S) (qI Q)) 0 0 (inLay ad (knX S))) (μ, ()) 33 [(0, .ref (ad 0)), (3, .int v3), (4, .int v4)] [] := by
    intro  v3 v4 μ h
    refine h (fun v3 v4 μ => VV C 5 (HPW D ac ad (knX S) (ExX D ac ad S) (vS C)) (vQ C (QcW D ac ad (knX S) (qI Q)) 0 0 (inLay ad (knX S))) (μ, ()) 33 [(0, .ref (ad 0)), (3, .int v3), (4, .int v4)] []) ?_
    clear h; intro v3 v4 μ h
    have h33 : ∀ (v3 : Int32) (v4 : Int32) (μ : WS), (fun v3 v4 (μ : WS) => VV C 5 (HPW D ac ad (knX S) (ExX D ac ad S) (vS C)) (vQ C (QcW D ac ad (knX S) (qI Q)) 0 0 (inLay ad (knX S))) (μ, ()) 33 [(0, .ref (ad 0)), (3, .int v3), (4, .int v4)] []) v3 v4 μ → VV C 5 (HPW D ac ad (knX S) (ExX D ac ad S) (vS C)) (vQ C (QcW D ac ad (knX S) (qI Q)) 0 0 (inLay ad (knX S))) (μ, ()) 33 [(0, .ref (ad 0)), (3, .int v3), (4, .int v4)] [] := fun _ _ _ h => h
    unfold w_X0_thumb_33b at h
    refine vv_aload_n hC dX0_thumb_33 rfl 0 rfl ?_
    refine vv_getf hC hR hK fxX0_31_X0 0 (lx_0 S) rfl dX0_thumb_34 ?_
    refine vv_getf hC hR hK fxX0_167_X3 1000 (lx_1000 S) rfl dX0_thumb_37 ?_
    refine vv_iload_n hC dX0_thumb_40 rfl 1 rfl ?_
    obtain ⟨hin203, h⟩ := h
    refine vv_iald hC hR hK 1002 (lx_1002 S) hin203 dX0_thumb_41 ?_
    refine vv_if_lt (tgt := 100) hC dX0_thumb_42 rfl (fun c10 => ?_) (fun c10 => ?_)
    · replace h := h.1 c10
      refine vv_iconst hC dX0_thumb_100 xic_m1 ?_
      exact vv_iret hC hM dX0_thumb_101 h
    · replace h := h.2 c10
      refine vv_aload_n hC dX0_thumb_45 rfl 0 rfl ?_
      refine vv_getf hC hR hK fxX0_20_X0 0 (lx_0 S) rfl dX0_thumb_46 ?_
      refine vv_getf hC hR hK fxX0_147_X1 104 (lx_104 S) rfl dX0_thumb_49 ?_
      refine vv_iconst hC dX0_thumb_52 xic_1 ?_
      refine vv_isub hC dX0_thumb_53 ?_
      refine vv_iload hC dX0_thumb_54 2 rfl ?_
      refine vv_isub hC dX0_thumb_56 ?_
      refine vv_topi (fun x11 ex11 => ?_)
      replace h := h x11 ex11
      refine vv_istore (lv' := [(4, .int x11), (0, .ref (ad 0)), (3, .int v3)]) hC dX0_thumb_57 (by decide) rfl ?_
      refine vv_aload_n hC dX0_thumb_59 rfl 1 rfl ?_
      refine vv_aload_n hC dX0_thumb_60 rfl 1 rfl ?_
      refine vv_getf hC hR hK fxX0_31_X0 0 (lx_0 S) rfl dX0_thumb_61 ?_
      refine vv_getf hC hR hK fxX0_167_X3 1000 (lx_1000 S) rfl dX0_thumb_64 ?_
      refine vv_iload_n hC dX0_thumb_67 rfl 2 rfl ?_
      obtain ⟨hin204, h⟩ := h
      refine vv_iald hC hR hK 1002 (lx_1002 S) hin204 dX0_thumb_68 ?_
      refine vv_iload hC dX0_thumb_69 0 rfl ?_
      refine vv_callVi hC hR hK hRo hRm [.int (μ.1 1002 v3.toNatClampNeg), .int x11] [] (met_X0_hasMark (vL C) D ac ad S hLay (μ.1 1002 v3.toNatClampNeg) x11 μ _ h) gxX0_255 mf_X0_hasMark rfl (lx_0 S) rfl rfl rfl rfl dX0_thumb_71 (fun r13 μ12 h => ?_)
      refine vv_if_ne (tgt := 87) hC dX0_thumb_74 rfl (fun c14 => ?_) (fun c14 => ?_)
      · replace h := h.1 c14
        refine vv_aload_n hC dX0_thumb_87 rfl 1 rfl ?_
        refine vv_getf hC hR hK fxX0_31_X0 0 (lx_0 S) rfl dX0_thumb_88 ?_
        refine vv_getf hC hR hK fxX0_167_X3 1000 (lx_1000 S) rfl dX0_thumb_91 ?_
        refine vv_iload_n hC dX0_thumb_94 rfl 2 rfl ?_
        obtain ⟨hin205, h⟩ := h
        refine vv_iald hC hR hK 1002 (lx_1002 S) hin205 dX0_thumb_95 ?_
        refine vv_topi (fun x15 ex15 => ?_)
        replace h := h x15 ex15
        refine vv_istore_n (lv' := [(3, .int x15), (4, .int x11), (0, .ref (ad 0))]) hC dX0_thumb_96 rfl (by decide) rfl ?_
        refine vv_goto (tgt := 33) hC dX0_thumb_97 rfl ?_
        refine vv_lv [2, 0, 1] rfl ?_
        exact h33 _ _ _ h
      · replace h := h.2 c14
        refine vv_aload_n hC dX0_thumb_77 rfl 1 rfl ?_
        refine vv_getf hC hR hK fxX0_31_X0 0 (lx_0 S) rfl dX0_thumb_78 ?_
        refine vv_getf hC hR hK fxX0_170_X3 1000 (lx_1000 S) rfl dX0_thumb_81 ?_
        refine vv_iload_n hC dX0_thumb_84 rfl 2 rfl ?_
        obtain ⟨hin206, h⟩ := h
        refine vv_iald hC hR hK 1003 (lx_1003 S) hin206 dX0_thumb_85 ?_
        exact vv_iret hC hM dX0_thumb_86 h
  unfold w_X0_thumb at h
  refine vv_aload_n hC dX0_thumb_0 rfl 0 rfl ?_
  refine vv_iload_n hC dX0_thumb_1 rfl 1 rfl ?_
  refine vv_callVi hC hR hK hRo hRm [.int v1] [] (met_X0_isSeal (vL C) D ac ad S hLay v1 μ _ h) gxX0_160 mf_X0_isSeal rfl (lx_0 S) rfl rfl rfl rfl dX0_thumb_2 (fun r2 μ1 h => ?_)
  refine vv_if_eq (tgt := 25) hC dX0_thumb_5 rfl (fun c3 => ?_) (fun c3 => ?_)
  · replace h := h.1 c3
    refine vv_bipush hC dX0_thumb_25 xbp_m2 ?_
    exact vv_iret hC hM dX0_thumb_27 h
  · replace h := h.2 c3
    refine vv_aload_n hC dX0_thumb_8 rfl 0 rfl ?_
    refine vv_iload_n hC dX0_thumb_9 rfl 2 rfl ?_
    refine vv_callVi hC hR hK hRo hRm [.int v2] [] (met_X0_isMark (vL C) D ac ad S hLay v2 μ1 _ h) gxX0_229 mf_X0_isMark rfl (lx_0 S) rfl rfl rfl rfl dX0_thumb_10 (fun r5 μ4 h => ?_)
    refine vv_if_eq (tgt := 25) hC dX0_thumb_13 rfl (fun c6 => ?_) (fun c6 => ?_)
    · replace h := h.1 c6
      refine vv_bipush hC dX0_thumb_25 xbp_m2 ?_
      exact vv_iret hC hM dX0_thumb_27 h
    · replace h := h.2 c6
      refine vv_aload_n hC dX0_thumb_16 rfl 0 rfl ?_
      refine vv_iload_n hC dX0_thumb_17 rfl 1 rfl ?_
      refine vv_iload_n hC dX0_thumb_18 rfl 2 rfl ?_
      refine vv_callVi hC hR hK hRo hRm [.int v1, .int v2] [] (met_X0_hasMark (vL C) D ac ad S hLay v1 v2 μ4 _ h) gxX0_255 mf_X0_hasMark rfl (lx_0 S) rfl rfl rfl rfl dX0_thumb_19 (fun r8 μ7 h => ?_)
      refine vv_if_ne (tgt := 28) hC dX0_thumb_22 rfl (fun c9 => ?_) (fun c9 => ?_)
      · replace h := h.1 c9
        refine vv_iload_n hC dX0_thumb_28 rfl 1 rfl ?_
        refine vv_istore_n (lv' := [(3, .int v1), (0, .ref (ad 0)), (1, .int v1), (2, .int v2)]) hC dX0_thumb_29 rfl (by decide) rfl ?_
        refine vv_iload_n hC dX0_thumb_30 rfl 3 rfl ?_
        refine vv_istore (lv' := [(4, .int v2), (3, .int v1), (0, .ref (ad 0)), (1, .int v1), (2, .int v2)]) hC dX0_thumb_31 (by decide) rfl ?_
        refine vv_lv [2, 1, 0] rfl ?_
        exact L33  _ _ _ h
      · replace h := h.2 c9
        refine vv_bipush hC dX0_thumb_25 xbp_m2 ?_
        exact vv_iret hC hM dX0_thumb_27 h
def w_X0_layShares_205 (S : XS) (P160 : Int32 → Int32 → Int32 → WS → Prop) (P175 : Int32 → Int32 → Int32 → Int32 → Int32 → WS → Prop) (s0 : Int32) (v2 : Int32) (v3 : Int32) (v4 : Int32) (v6 : Int32) (μ : WS) (Q : WS → Prop) : Prop := P175 v2 v3 v4 s0 (v6 + 1) μ
def w_X0_layShares_175b (S : XS) (P160 : Int32 → Int32 → Int32 → WS → Prop) (P175 : Int32 → Int32 → Int32 → Int32 → Int32 → WS → Prop) (v2 : Int32) (v3 : Int32) (v4 : Int32) (v5 : Int32) (v6 : Int32) (μ : WS) (Q : WS → Prop) : Prop := ((v2 ≤ v6) → (vp_in v5 4 ∧ (vp_in v5 4 ∧ (∀ μ16 : WS, μ16 = wset μ 113 v5.toNatClampNeg ((μ.1 113 v5.toNatClampNeg) + 1) → (vp_in v5 4 ∧ (∀ μ17 : WS, μ17 = wset μ16 114 v5.toNatClampNeg (-1) → P160 v2 v3 (v4 + (-1)) μ17)))))) ∧ ((¬ v2 ≤ v6) → (vp_in v6 4 ∧ (vp_in v5 4 ∧ ((μ.1 114 v6.toNatClampNeg ≤ μ.1 114 v5.toNatClampNeg) → w_X0_layShares_205 S P160 P175 v5 v2 v3 v4 v6 μ Q) ∧ ((¬ μ.1 114 v6.toNatClampNeg ≤ μ.1 114 v5.toNatClampNeg) → w_X0_layShares_205 S P160 P175 v6 v2 v3 v4 v6 μ Q))))
def w_X0_layShares_175 (S : XS) (P160 : Int32 → Int32 → Int32 → WS → Prop) (v2 : Int32) (v3 : Int32) (v4 : Int32) (v5 : Int32) (v6 : Int32) (μ : WS) (Q : WS → Prop) : Prop := ∀ P175 : Int32 → Int32 → Int32 → Int32 → Int32 → WS → Prop, (∀ (v2 : Int32) (v3 : Int32) (v4 : Int32) (v5 : Int32) (v6 : Int32) (μ : WS), w_X0_layShares_175b S P160 P175 v2 v3 v4 v5 v6 μ Q → P175 v2 v3 v4 v5 v6 μ) → P175 v2 v3 v4 v5 v6 μ
def w_X0_layShares_160b (S : XS) (P160 : Int32 → Int32 → Int32 → WS → Prop) (v2 : Int32) (v3 : Int32) (v4 : Int32) (μ : WS) (Q : WS → Prop) : Prop := ((v4 ≤ 0) → Q μ) ∧ ((¬ v4 ≤ 0) → ((v3 ≤ 0) → Q μ) ∧ ((¬ v3 ≤ 0) → w_X0_layShares_175 S P160 v2 v3 v4 0 1 μ Q))
def w_X0_layShares_160 (S : XS) (v2 : Int32) (v3 : Int32) (v4 : Int32) (μ : WS) (Q : WS → Prop) : Prop := ∀ P160 : Int32 → Int32 → Int32 → WS → Prop, (∀ (v2 : Int32) (v3 : Int32) (v4 : Int32) (μ : WS), w_X0_layShares_160b S  P160 v2 v3 v4 μ Q → P160 v2 v3 v4 μ) → P160 v2 v3 v4 μ
def w_X0_layShares_141 (S : XS) (P82 : Int32 → Int32 → Int32 → Int32 → WS → Prop) (s0 : Int32) (s1 : Int32) (v2 : Int32) (v3 : Int32) (v4 : Int32) (v5 : Int32) (μ : WS) (Q : WS → Prop) : Prop := (vp_in s1 4 ∧ (∀ μ11 : WS, μ11 = wset μ 114 s1.toNatClampNeg s0 → (vp_in v5 4 ∧ (∀ x12 : Int32, x12 = v4 - (μ11.1 113 v5.toNatClampNeg) → P82 v2 v3 x12 (v5 + 1) μ11))))
def w_X0_layShares_114 (S : XS) (P82 : Int32 → Int32 → Int32 → Int32 → WS → Prop) (s0 : Int32) (s1 : Int32) (v2 : Int32) (v3 : Int32) (v4 : Int32) (v5 : Int32) (μ : WS) (Q : WS → Prop) : Prop := (vp_in s1 4 ∧ (∀ μ9 : WS, μ9 = wset μ 113 s1.toNatClampNeg s0 → ((¬ v3 = 0) → (vp_in v5 4 ∧ (¬ v3 = 0 ∧ w_X0_layShares_141 S P82 ((100 * (μ9.1 112 v5.toNatClampNeg)) - (100 * (μ9.1 112 v5.toNatClampNeg)) / v3 * v3) v5 v2 v3 v4 v5 μ9 Q))) ∧ ((v3 = 0) → w_X0_layShares_141 S P82 0 v5 v2 v3 v4 v5 μ9 Q)))
def w_X0_layShares_82b (S : XS) (P82 : Int32 → Int32 → Int32 → Int32 → WS → Prop) (v2 : Int32) (v3 : Int32) (v4 : Int32) (v5 : Int32) (μ : WS) (Q : WS → Prop) : Prop := ((4 ≤ v5) → w_X0_layShares_160 S v2 v3 v4 μ Q) ∧ ((¬ 4 ≤ v5) → ((¬ v3 = 0) → (vp_in v5 4 ∧ (¬ v3 = 0 ∧ w_X0_layShares_114 S P82 ((100 * (μ.1 112 v5.toNatClampNeg)) / v3) v5 v2 v3 v4 v5 μ Q))) ∧ ((v3 = 0) → w_X0_layShares_114 S P82 0 v5 v2 v3 v4 v5 μ Q))
def w_X0_layShares_82 (S : XS) (v2 : Int32) (v3 : Int32) (v4 : Int32) (v5 : Int32) (μ : WS) (Q : WS → Prop) : Prop := ∀ P82 : Int32 → Int32 → Int32 → Int32 → WS → Prop, (∀ (v2 : Int32) (v3 : Int32) (v4 : Int32) (v5 : Int32) (μ : WS), w_X0_layShares_82b S  P82 v2 v3 v4 v5 μ Q → P82 v2 v3 v4 v5 μ) → P82 v2 v3 v4 v5 μ
def w_X0_layShares_35b (S : XS) (P35 : Int32 → Int32 → Int32 → Int32 → Int32 → WS → Prop) (v1 : Int32) (v2 : Int32) (v3 : Int32) (v4 : Int32) (v5 : Int32) (μ : WS) (Q : WS → Prop) : Prop := ((μ.1 104 2 ≤ v5) → w_X0_layShares_82 S v2 v3 v4 0 μ Q) ∧ ((¬ μ.1 104 2 ≤ v5) → (¬ μ.1 104 2 = 0 ∧ (vp_in ((v5 * v2) / (μ.1 104 2)) 4 ∧ (vp_in ((v5 * v2) / (μ.1 104 2)) 4 ∧ (∀ μ6 : WS, μ6 = wset μ 112 ((v5 * v2) / (μ.1 104 2)).toNatClampNeg ((μ.1 112 ((v5 * v2) / (μ.1 104 2)).toNatClampNeg) + ((v1 >>> (v5 &&& 31)) &&& 1)) → P35 v1 v2 v3 v4 (v5 + 1) μ6)))))
def w_X0_layShares_35 (S : XS) (v1 : Int32) (v2 : Int32) (v3 : Int32) (v4 : Int32) (v5 : Int32) (μ : WS) (Q : WS → Prop) : Prop := ∀ P35 : Int32 → Int32 → Int32 → Int32 → Int32 → WS → Prop, (∀ (v1 : Int32) (v2 : Int32) (v3 : Int32) (v4 : Int32) (v5 : Int32) (μ : WS), w_X0_layShares_35b S  P35 v1 v2 v3 v4 v5 μ Q → P35 v1 v2 v3 v4 v5 μ) → P35 v1 v2 v3 v4 v5 μ
def w_X0_layShares_12b (S : XS) (P12 : Int32 → Int32 → Int32 → Int32 → Int32 → WS → Prop) (v1 : Int32) (v2 : Int32) (v3 : Int32) (v4 : Int32) (v5 : Int32) (μ : WS) (Q : WS → Prop) : Prop := ((4 ≤ v5) → w_X0_layShares_35 S v1 v2 v3 v4 0 μ Q) ∧ ((¬ 4 ≤ v5) → (vp_in v5 4 ∧ (∀ μ4 : WS, μ4 = wset μ 112 v5.toNatClampNeg 0 → P12 v1 v2 v3 v4 (v5 + 1) μ4)))
def w_X0_layShares_12 (S : XS) (v1 : Int32) (v2 : Int32) (v3 : Int32) (v4 : Int32) (v5 : Int32) (μ : WS) (Q : WS → Prop) : Prop := ∀ P12 : Int32 → Int32 → Int32 → Int32 → Int32 → WS → Prop, (∀ (v1 : Int32) (v2 : Int32) (v3 : Int32) (v4 : Int32) (v5 : Int32) (μ : WS), w_X0_layShares_12b S  P12 v1 v2 v3 v4 v5 μ Q → P12 v1 v2 v3 v4 v5 μ) → P12 v1 v2 v3 v4 v5 μ
def w_X0_layShares (S : XS) (v1 : Int32) (v2 : Int32) (μ : WS) (Q : WS → Prop) : Prop := (w_J15_bitCount S v1 μ (fun r2 μ1 => w_X0_layShares_12 S v1 v2 r2 100 0 μ1 Q))
abbrev rm_X0_layShares : Room := { frames := 1, cells := 0, slots := 0, locals := 20 }
theorem mf_X0_layShares : MFact yX0_layShares 2 rm_X0_layShares := ⟨by decide +kernel, rfl, rfl⟩
set_option maxHeartbeats 4000000 in
theorem met_X0_layShares (l : Launch) (D : va_G) (ac : Nat → ClassId) (ad : Nat → Nat) (S : XS) (hLay : LayOk ad (knX S)) (v1 : Int32) (v2 : Int32) (μ : WS) (Q : WS → Prop) (h : w_X0_layShares S v1 v2 μ Q) : CMet l yX0_layShares cX0_layShares 7 none rm_X0_layShares D ac ad (knX S) (ExX D ac ad S) [.ref (ad 0), .int v1, .int v2] μ (qV Q) := by
  refine vv_met (lv := [(0, .ref (ad 0)), (1, .int v1), (2, .int v2)]) (by decide) hLay exX_ok (Nat.le_of_ble_eq_true rfl) rfl ⟨rfl, rfl⟩ (fun C hC hK hRm hLl hR hM => ?_)
  subst hLl
  have hRo : RoomOk (HPW D ac ad (knX S) (ExX D ac ad S) (vS C)) (vR C) := HPW.room
  have L205 : ∀ (P160 : Int32 → Int32 → Int32 → WS → Prop) (h160 : ∀ (v2 : Int32) (v3 : Int32) (v4 : Int32) (μ : WS), P160 v2 v3 v4 μ → VV C 7 (HPW D ac ad (knX S) (ExX D ac ad S) (vS C)) (vQ C (QcW D ac ad (knX S) (qV Q)) 0 0 (inLay ad (knX S))) (μ, ()) 160 [(0, .ref (ad 0)), (2, .int v2), (3, .int v3), (4, .int v4)] []) (P175 : Int32 → Int32 → Int32 → Int32 → Int32 → WS → Prop) (h175 : ∀ (v2 : Int32) (v3 : Int32) (v4 : Int32) (v5 : Int32) (v6 : Int32) (μ : WS), P175 v2 v3 v4 v5 v6 μ → VV C 7 (HPW D ac ad (knX S) (ExX D ac ad S) (vS C)) (vQ C (QcW D ac ad (knX S) (qV Q)) 0 0 (inLay ad (knX S))) (μ, ()) 175 [(0, .ref (ad 0)), (2, .int v2), (3, .int v3), (4, .int v4), (5, .int v5), (6, .int v6)] []) (s0 : Int32) (v2 : Int32) (v3 : Int32) (v4 : Int32) (v6 : Int32) (μ : WS), w_X0_layShares_205 S P160 P175 s0 v2 v3 v4 v6 μ Q → VV C 7 (HPW D ac ad (knX S) (ExX D ac ad S) (vS C)) (vQ C (QcW D ac ad (knX S) (qV Q)) 0 0 (inLay ad (knX S))) (μ, ()) 205 [(0, .ref (ad 0)), (2, .int v2), (3, .int v3), (4, .int v4), (6, .int v6)] [.int s0] := by
    intro P160 h160 P175 h175 s0 v2 v3 v4 v6 μ h
    unfold w_X0_layShares_205 at h
    refine vv_istore (lv' := [(5, .int s0), (0, .ref (ad 0)), (2, .int v2), (3, .int v3), (4, .int v4), (6, .int v6)]) hC dX0_layShares_205 (by decide) rfl ?_
    refine vv_iinc (pl := 5) (v := v6 + 1) (lv' := [(6, .int (v6 + 1)), (5, .int s0), (0, .ref (ad 0)), (2, .int v2), (3, .int v3), (4, .int v4)]) hC dX0_layShares_207 rfl rfl (by decide) rfl ?_
    refine vv_goto (tgt := 175) hC dX0_layShares_210 rfl ?_
    refine vv_lv [2, 3, 4, 5, 1, 0] rfl ?_
    exact h175 _ _ _ _ _ _ h
  have L175 : ∀ (P160 : Int32 → Int32 → Int32 → WS → Prop) (h160 : ∀ (v2 : Int32) (v3 : Int32) (v4 : Int32) (μ : WS), P160 v2 v3 v4 μ → VV C 7 (HPW D ac ad (knX S) (ExX D ac ad S) (vS C)) (vQ C (QcW D ac ad (knX S) (qV Q)) 0 0 (inLay ad (knX S))) (μ, ()) 160 [(0, .ref (ad 0)), (2, .int v2), (3, .int v3), (4, .int v4)] []) (v2 : Int32) (v3 : Int32) (v4 : Int32) (v5 : Int32) (v6 : Int32) (μ : WS), w_X0_layShares_175 S P160 v2 v3 v4 v5 v6 μ Q → VV C 7 (HPW D ac ad (knX S) (ExX D ac ad S) (vS C)) (vQ C (QcW D ac ad (knX S) (qV Q)) 0 0 (inLay ad (knX S))) (μ, ()) 175 [(0, .ref (ad 0)), (2, .int v2), (3, .int v3), (4, .int v4), (5, .int v5), (6, .int v6)] [] := by
    intro P160 h160 v2 v3 v4 v5 v6 μ h
    refine h (fun v2 v3 v4 v5 v6 μ => VV C 7 (HPW D ac ad (knX S) (ExX D ac ad S) (vS C)) (vQ C (QcW D ac ad (knX S) (qV Q)) 0 0 (inLay ad (knX S))) (μ, ()) 175 [(0, .ref (ad 0)), (2, .int v2), (3, .int v3), (4, .int v4), (5, .int v5), (6, .int v6)] []) ?_
    clear h; intro v2 v3 v4 v5 v6 μ h
    have h175 : ∀ (v2 : Int32) (v3 : Int32) (v4 : Int32) (v5 : Int32) (v6 : Int32) (μ : WS), (fun v2 v3 v4 v5 v6 (μ : WS) => VV C 7 (HPW D ac ad (knX S) (ExX D ac ad S) (vS C)) (vQ C (QcW D ac ad (knX S) (qV Q)) 0 0 (inLay ad (knX S))) (μ, ()) 175 [(0, .ref (ad 0)), (2, .int v2), (3, .int v3), (4, .int v4), (5, .int v5), (6, .int v6)] []) v2 v3 v4 v5 v6 μ → VV C 7 (HPW D ac ad (knX S) (ExX D ac ad S) (vS C)) (vQ C (QcW D ac ad (knX S) (qV Q)) 0 0 (inLay ad (knX S))) (μ, ()) 175 [(0, .ref (ad 0)), (2, .int v2), (3, .int v3), (4, .int v4), (5, .int v5), (6, .int v6)] [] := fun _ _ _ _ _ _ h => h
    unfold w_X0_layShares_175b at h
    refine vv_iload hC dX0_layShares_175 5 rfl ?_
    refine vv_iload_n hC dX0_layShares_177 rfl 1 rfl ?_
    refine vv_icmp_ge (tgt := 213) hC dX0_layShares_178 rfl (fun c15 => ?_) (fun c15 => ?_)
    · replace h := h.1 c15
      refine vv_aload_n hC dX0_layShares_213 rfl 0 rfl ?_
      refine vv_getf hC hR hK fxX0_49_X0 0 (lx_0 S) rfl dX0_layShares_214 ?_
      refine vv_iload hC dX0_layShares_217 4 rfl ?_
      refine vv_dup2 hC dX0_layShares_219 rfl rfl ?_
      obtain ⟨hin215, h⟩ := h
      refine vv_iald hC hR hK 113 (lx_113 S) hin215 dX0_layShares_220 ?_
      refine vv_iconst hC dX0_layShares_221 xic_1 ?_
      refine vv_iadd hC dX0_layShares_222 ?_
      obtain ⟨hin216, h⟩ := h
      refine vv_iast hC hR hK 113 (lx_113 S) hin216 dX0_layShares_223 ?_
      refine vv_st (fun y e => ?_)
      obtain ⟨μ16, _⟩ := y
      have eμ16 := congrArg Prod.fst e
      clear e
      replace h := h μ16 eμ16
      refine vv_aload_n hC dX0_layShares_224 rfl 0 rfl ?_
      refine vv_getf hC hR hK fxX0_52_X0 0 (lx_0 S) rfl dX0_layShares_225 ?_
      refine vv_iload hC dX0_layShares_228 4 rfl ?_
      refine vv_iconst hC dX0_layShares_230 xic_m1 ?_
      obtain ⟨hin217, h⟩ := h
      refine vv_iast hC hR hK 114 (lx_114 S) hin217 dX0_layShares_231 ?_
      refine vv_st (fun y e => ?_)
      obtain ⟨μ17, _⟩ := y
      have eμ17 := congrArg Prod.fst e
      clear e
      replace h := h μ17 eμ17
      refine vv_iinc (pl := 3) (v := v4 + (-1)) (lv' := [(4, .int (v4 + (-1))), (0, .ref (ad 0)), (2, .int v2), (3, .int v3), (5, .int v5), (6, .int v6)]) hC dX0_layShares_232 rfl rfl (by decide) rfl ?_
      refine vv_goto (tgt := 160) hC dX0_layShares_235 rfl ?_
      refine vv_lv [1, 2, 3, 0] rfl ?_
      exact h160 _ _ _ _ h
    · replace h := h.2 c15
      refine vv_aload_n hC dX0_layShares_181 rfl 0 rfl ?_
      refine vv_getf hC hR hK fxX0_52_X0 0 (lx_0 S) rfl dX0_layShares_182 ?_
      refine vv_iload hC dX0_layShares_185 5 rfl ?_
      obtain ⟨hin218, h⟩ := h
      refine vv_iald hC hR hK 114 (lx_114 S) hin218 dX0_layShares_187 ?_
      refine vv_aload_n hC dX0_layShares_188 rfl 0 rfl ?_
      refine vv_getf hC hR hK fxX0_52_X0 0 (lx_0 S) rfl dX0_layShares_189 ?_
      refine vv_iload hC dX0_layShares_192 4 rfl ?_
      obtain ⟨hin219, h⟩ := h
      refine vv_iald hC hR hK 114 (lx_114 S) hin219 dX0_layShares_194 ?_
      refine vv_icmp_le (tgt := 203) hC dX0_layShares_195 rfl (fun c18 => ?_) (fun c18 => ?_)
      · replace h := h.1 c18
        refine vv_iload hC dX0_layShares_203 4 rfl ?_
        refine vv_lv [0, 1, 2, 3, 5] rfl ?_
        exact L205 _ h160 _ h175 _ _ _ _ _ _ h
      · replace h := h.2 c18
        refine vv_iload hC dX0_layShares_198 5 rfl ?_
        refine vv_goto (tgt := 205) hC dX0_layShares_200 rfl ?_
        refine vv_lv [0, 1, 2, 3, 5] rfl ?_
        exact L205 _ h160 _ h175 _ _ _ _ _ _ h
  have L160 : ∀ (v2 : Int32) (v3 : Int32) (v4 : Int32) (μ : WS), w_X0_layShares_160 S  v2 v3 v4 μ Q → VV C 7 (HPW D ac ad (knX S) (ExX D ac ad S) (vS C)) (vQ C (QcW D ac ad (knX S) (qV Q)) 0 0 (inLay ad (knX S))) (μ, ()) 160 [(0, .ref (ad 0)), (2, .int v2), (3, .int v3), (4, .int v4)] [] := by
    intro  v2 v3 v4 μ h
    refine h (fun v2 v3 v4 μ => VV C 7 (HPW D ac ad (knX S) (ExX D ac ad S) (vS C)) (vQ C (QcW D ac ad (knX S) (qV Q)) 0 0 (inLay ad (knX S))) (μ, ()) 160 [(0, .ref (ad 0)), (2, .int v2), (3, .int v3), (4, .int v4)] []) ?_
    clear h; intro v2 v3 v4 μ h
    have h160 : ∀ (v2 : Int32) (v3 : Int32) (v4 : Int32) (μ : WS), (fun v2 v3 v4 (μ : WS) => VV C 7 (HPW D ac ad (knX S) (ExX D ac ad S) (vS C)) (vQ C (QcW D ac ad (knX S) (qV Q)) 0 0 (inLay ad (knX S))) (μ, ()) 160 [(0, .ref (ad 0)), (2, .int v2), (3, .int v3), (4, .int v4)] []) v2 v3 v4 μ → VV C 7 (HPW D ac ad (knX S) (ExX D ac ad S) (vS C)) (vQ C (QcW D ac ad (knX S) (qV Q)) 0 0 (inLay ad (knX S))) (μ, ()) 160 [(0, .ref (ad 0)), (2, .int v2), (3, .int v3), (4, .int v4)] [] := fun _ _ _ _ h => h
    unfold w_X0_layShares_160b at h
    refine vv_iload hC dX0_layShares_160 3 rfl ?_
    refine vv_if_le (tgt := 238) hC dX0_layShares_162 rfl (fun c13 => ?_) (fun c13 => ?_)
    · replace h := h.1 c13
      exact vv_vret hC hM dX0_layShares_238 h
    · replace h := h.2 c13
      refine vv_iload_n hC dX0_layShares_165 rfl 2 rfl ?_
      refine vv_if_le (tgt := 238) hC dX0_layShares_166 rfl (fun c14 => ?_) (fun c14 => ?_)
      · replace h := h.1 c14
        exact vv_vret hC hM dX0_layShares_238 h
      · replace h := h.2 c14
        refine vv_iconst hC dX0_layShares_169 xic_0 ?_
        refine vv_istore (lv' := [(5, .int 0), (0, .ref (ad 0)), (2, .int v2), (3, .int v3), (4, .int v4)]) hC dX0_layShares_170 (by decide) rfl ?_
        refine vv_iconst hC dX0_layShares_172 xic_1 ?_
        refine vv_istore (lv' := [(6, .int 1), (5, .int 0), (0, .ref (ad 0)), (2, .int v2), (3, .int v3), (4, .int v4)]) hC dX0_layShares_173 (by decide) rfl ?_
        refine vv_lv [2, 3, 4, 5, 1, 0] rfl ?_
        exact L175 _ h160 _ _ _ _ _ _ h
  have L141 : ∀ (P82 : Int32 → Int32 → Int32 → Int32 → WS → Prop) (h82 : ∀ (v2 : Int32) (v3 : Int32) (v4 : Int32) (v5 : Int32) (μ : WS), P82 v2 v3 v4 v5 μ → VV C 7 (HPW D ac ad (knX S) (ExX D ac ad S) (vS C)) (vQ C (QcW D ac ad (knX S) (qV Q)) 0 0 (inLay ad (knX S))) (μ, ()) 82 [(0, .ref (ad 0)), (2, .int v2), (3, .int v3), (4, .int v4), (5, .int v5)] []) (s0 : Int32) (s1 : Int32) (v2 : Int32) (v3 : Int32) (v4 : Int32) (v5 : Int32) (μ : WS), w_X0_layShares_141 S P82 s0 s1 v2 v3 v4 v5 μ Q → VV C 7 (HPW D ac ad (knX S) (ExX D ac ad S) (vS C)) (vQ C (QcW D ac ad (knX S) (qV Q)) 0 0 (inLay ad (knX S))) (μ, ()) 141 [(0, .ref (ad 0)), (2, .int v2), (3, .int v3), (4, .int v4), (5, .int v5)] [.int s0, .int s1, .ref (ad 114)] := by
    intro P82 h82 s0 s1 v2 v3 v4 v5 μ h
    unfold w_X0_layShares_141 at h
    obtain ⟨hin213, h⟩ := h
    refine vv_iast hC hR hK 114 (lx_114 S) hin213 dX0_layShares_141 ?_
    refine vv_st (fun y e => ?_)
    obtain ⟨μ11, _⟩ := y
    have eμ11 := congrArg Prod.fst e
    clear e
    replace h := h μ11 eμ11
    refine vv_iload hC dX0_layShares_142 3 rfl ?_
    refine vv_aload_n hC dX0_layShares_144 rfl 0 rfl ?_
    refine vv_getf hC hR hK fxX0_49_X0 0 (lx_0 S) rfl dX0_layShares_145 ?_
    refine vv_iload hC dX0_layShares_148 4 rfl ?_
    obtain ⟨hin214, h⟩ := h
    refine vv_iald hC hR hK 113 (lx_113 S) hin214 dX0_layShares_150 ?_
    refine vv_isub hC dX0_layShares_151 ?_
    refine vv_topi (fun x12 ex12 => ?_)
    replace h := h x12 ex12
    refine vv_istore (lv' := [(4, .int x12), (0, .ref (ad 0)), (2, .int v2), (3, .int v3), (5, .int v5)]) hC dX0_layShares_152 (by decide) rfl ?_
    refine vv_iinc (pl := 4) (v := v5 + 1) (lv' := [(5, .int (v5 + 1)), (4, .int x12), (0, .ref (ad 0)), (2, .int v2), (3, .int v3)]) hC dX0_layShares_154 rfl rfl (by decide) rfl ?_
    refine vv_goto (tgt := 82) hC dX0_layShares_157 rfl ?_
    refine vv_lv [2, 3, 4, 1, 0] rfl ?_
    exact h82 _ _ _ _ _ h
  have L114 : ∀ (P82 : Int32 → Int32 → Int32 → Int32 → WS → Prop) (h82 : ∀ (v2 : Int32) (v3 : Int32) (v4 : Int32) (v5 : Int32) (μ : WS), P82 v2 v3 v4 v5 μ → VV C 7 (HPW D ac ad (knX S) (ExX D ac ad S) (vS C)) (vQ C (QcW D ac ad (knX S) (qV Q)) 0 0 (inLay ad (knX S))) (μ, ()) 82 [(0, .ref (ad 0)), (2, .int v2), (3, .int v3), (4, .int v4), (5, .int v5)] []) (s0 : Int32) (s1 : Int32) (v2 : Int32) (v3 : Int32) (v4 : Int32) (v5 : Int32) (μ : WS), w_X0_layShares_114 S P82 s0 s1 v2 v3 v4 v5 μ Q → VV C 7 (HPW D ac ad (knX S) (ExX D ac ad S) (vS C)) (vQ C (QcW D ac ad (knX S) (qV Q)) 0 0 (inLay ad (knX S))) (μ, ()) 114 [(0, .ref (ad 0)), (2, .int v2), (3, .int v3), (4, .int v4), (5, .int v5)] [.int s0, .int s1, .ref (ad 113)] := by
    intro P82 h82 s0 s1 v2 v3 v4 v5 μ h
    unfold w_X0_layShares_114 at h
    obtain ⟨hin211, h⟩ := h
    refine vv_iast hC hR hK 113 (lx_113 S) hin211 dX0_layShares_114 ?_
    refine vv_st (fun y e => ?_)
    obtain ⟨μ9, _⟩ := y
    have eμ9 := congrArg Prod.fst e
    clear e
    replace h := h μ9 eμ9
    refine vv_aload_n hC dX0_layShares_115 rfl 0 rfl ?_
    refine vv_getf hC hR hK fxX0_52_X0 0 (lx_0 S) rfl dX0_layShares_116 ?_
    refine vv_iload hC dX0_layShares_119 4 rfl ?_
    refine vv_iload_n hC dX0_layShares_121 rfl 2 rfl ?_
    refine vv_if_ne (tgt := 129) hC dX0_layShares_122 rfl (fun c10 => ?_) (fun c10 => ?_)
    · replace h := h.1 c10
      refine vv_bipush hC dX0_layShares_129 xbp_100 ?_
      refine vv_aload_n hC dX0_layShares_131 rfl 0 rfl ?_
      refine vv_getf hC hR hK fxX0_46_X0 0 (lx_0 S) rfl dX0_layShares_132 ?_
      refine vv_iload hC dX0_layShares_135 4 rfl ?_
      obtain ⟨hin212, h⟩ := h
      refine vv_iald hC hR hK 112 (lx_112 S) hin212 dX0_layShares_137 ?_
      refine vv_imul hC dX0_layShares_138 ?_
      refine vv_iload_n hC dX0_layShares_139 rfl 2 rfl ?_
      obtain ⟨hne, h⟩ := h
      refine vv_irem hC dX0_layShares_140 hne ?_
      exact L141 _ h82 _ _ _ _ _ _ _ h
    · replace h := h.2 c10
      refine vv_iconst hC dX0_layShares_125 xic_0 ?_
      refine vv_goto (tgt := 141) hC dX0_layShares_126 rfl ?_
      exact L141 _ h82 _ _ _ _ _ _ _ h
  have L82 : ∀ (v2 : Int32) (v3 : Int32) (v4 : Int32) (v5 : Int32) (μ : WS), w_X0_layShares_82 S  v2 v3 v4 v5 μ Q → VV C 7 (HPW D ac ad (knX S) (ExX D ac ad S) (vS C)) (vQ C (QcW D ac ad (knX S) (qV Q)) 0 0 (inLay ad (knX S))) (μ, ()) 82 [(0, .ref (ad 0)), (2, .int v2), (3, .int v3), (4, .int v4), (5, .int v5)] [] := by
    intro  v2 v3 v4 v5 μ h
    refine h (fun v2 v3 v4 v5 μ => VV C 7 (HPW D ac ad (knX S) (ExX D ac ad S) (vS C)) (vQ C (QcW D ac ad (knX S) (qV Q)) 0 0 (inLay ad (knX S))) (μ, ()) 82 [(0, .ref (ad 0)), (2, .int v2), (3, .int v3), (4, .int v4), (5, .int v5)] []) ?_
    clear h; intro v2 v3 v4 v5 μ h
    have h82 : ∀ (v2 : Int32) (v3 : Int32) (v4 : Int32) (v5 : Int32) (μ : WS), (fun v2 v3 v4 v5 (μ : WS) => VV C 7 (HPW D ac ad (knX S) (ExX D ac ad S) (vS C)) (vQ C (QcW D ac ad (knX S) (qV Q)) 0 0 (inLay ad (knX S))) (μ, ()) 82 [(0, .ref (ad 0)), (2, .int v2), (3, .int v3), (4, .int v4), (5, .int v5)] []) v2 v3 v4 v5 μ → VV C 7 (HPW D ac ad (knX S) (ExX D ac ad S) (vS C)) (vQ C (QcW D ac ad (knX S) (qV Q)) 0 0 (inLay ad (knX S))) (μ, ()) 82 [(0, .ref (ad 0)), (2, .int v2), (3, .int v3), (4, .int v4), (5, .int v5)] [] := fun _ _ _ _ _ h => h
    unfold w_X0_layShares_82b at h
    refine vv_iload hC dX0_layShares_82 4 rfl ?_
    refine vv_iconst hC dX0_layShares_84 xic_4 ?_
    refine vv_icmp_ge (tgt := 160) hC dX0_layShares_85 rfl (fun c7 => ?_) (fun c7 => ?_)
    · replace h := h.1 c7
      refine vv_lv [0, 1, 2, 3] rfl ?_
      exact L160  _ _ _ _ h
    · replace h := h.2 c7
      refine vv_aload_n hC dX0_layShares_88 rfl 0 rfl ?_
      refine vv_getf hC hR hK fxX0_49_X0 0 (lx_0 S) rfl dX0_layShares_89 ?_
      refine vv_iload hC dX0_layShares_92 4 rfl ?_
      refine vv_iload_n hC dX0_layShares_94 rfl 2 rfl ?_
      refine vv_if_ne (tgt := 102) hC dX0_layShares_95 rfl (fun c8 => ?_) (fun c8 => ?_)
      · replace h := h.1 c8
        refine vv_bipush hC dX0_layShares_102 xbp_100 ?_
        refine vv_aload_n hC dX0_layShares_104 rfl 0 rfl ?_
        refine vv_getf hC hR hK fxX0_46_X0 0 (lx_0 S) rfl dX0_layShares_105 ?_
        refine vv_iload hC dX0_layShares_108 4 rfl ?_
        obtain ⟨hin210, h⟩ := h
        refine vv_iald hC hR hK 112 (lx_112 S) hin210 dX0_layShares_110 ?_
        refine vv_imul hC dX0_layShares_111 ?_
        refine vv_iload_n hC dX0_layShares_112 rfl 2 rfl ?_
        obtain ⟨hne, h⟩ := h
        refine vv_idiv hC dX0_layShares_113 hne ?_
        exact L114 _ h82 _ _ _ _ _ _ _ h
      · replace h := h.2 c8
        refine vv_iconst hC dX0_layShares_98 xic_0 ?_
        refine vv_goto (tgt := 114) hC dX0_layShares_99 rfl ?_
        exact L114 _ h82 _ _ _ _ _ _ _ h
  have L35 : ∀ (v1 : Int32) (v2 : Int32) (v3 : Int32) (v4 : Int32) (v5 : Int32) (μ : WS), w_X0_layShares_35 S  v1 v2 v3 v4 v5 μ Q → VV C 7 (HPW D ac ad (knX S) (ExX D ac ad S) (vS C)) (vQ C (QcW D ac ad (knX S) (qV Q)) 0 0 (inLay ad (knX S))) (μ, ()) 35 [(0, .ref (ad 0)), (1, .int v1), (2, .int v2), (3, .int v3), (4, .int v4), (5, .int v5)] [] := by
    intro  v1 v2 v3 v4 v5 μ h
    refine h (fun v1 v2 v3 v4 v5 μ => VV C 7 (HPW D ac ad (knX S) (ExX D ac ad S) (vS C)) (vQ C (QcW D ac ad (knX S) (qV Q)) 0 0 (inLay ad (knX S))) (μ, ()) 35 [(0, .ref (ad 0)), (1, .int v1), (2, .int v2), (3, .int v3), (4, .int v4), (5, .int v5)] []) ?_
    clear h; intro v1 v2 v3 v4 v5 μ h
    have h35 : ∀ (v1 : Int32) (v2 : Int32) (v3 : Int32) (v4 : Int32) (v5 : Int32) (μ : WS), (fun v1 v2 v3 v4 v5 (μ : WS) => VV C 7 (HPW D ac ad (knX S) (ExX D ac ad S) (vS C)) (vQ C (QcW D ac ad (knX S) (qV Q)) 0 0 (inLay ad (knX S))) (μ, ()) 35 [(0, .ref (ad 0)), (1, .int v1), (2, .int v2), (3, .int v3), (4, .int v4), (5, .int v5)] []) v1 v2 v3 v4 v5 μ → VV C 7 (HPW D ac ad (knX S) (ExX D ac ad S) (vS C)) (vQ C (QcW D ac ad (knX S) (qV Q)) 0 0 (inLay ad (knX S))) (μ, ()) 35 [(0, .ref (ad 0)), (1, .int v1), (2, .int v2), (3, .int v3), (4, .int v4), (5, .int v5)] [] := fun _ _ _ _ _ _ h => h
    unfold w_X0_layShares_35b at h
    refine vv_iload hC dX0_layShares_35 5 rfl ?_
    refine vv_aload_n hC dX0_layShares_37 rfl 0 rfl ?_
    refine vv_getf hC hR hK fxX0_20_X0 0 (lx_0 S) rfl dX0_layShares_38 ?_
    refine vv_getf hC hR hK fxX0_147_X1 104 (lx_104 S) rfl dX0_layShares_41 ?_
    refine vv_icmp_ge (tgt := 79) hC dX0_layShares_44 rfl (fun c5 => ?_) (fun c5 => ?_)
    · replace h := h.1 c5
      refine vv_iconst hC dX0_layShares_79 xic_0 ?_
      refine vv_istore (lv' := [(5, .int 0), (0, .ref (ad 0)), (1, .int v1), (2, .int v2), (3, .int v3), (4, .int v4)]) hC dX0_layShares_80 (by decide) rfl ?_
      refine vv_lv [1, 3, 4, 5, 0] rfl ?_
      exact L82  _ _ _ _ _ h
    · replace h := h.2 c5
      refine vv_aload_n hC dX0_layShares_47 rfl 0 rfl ?_
      refine vv_getf hC hR hK fxX0_46_X0 0 (lx_0 S) rfl dX0_layShares_48 ?_
      refine vv_iload hC dX0_layShares_51 5 rfl ?_
      refine vv_iload_n hC dX0_layShares_53 rfl 2 rfl ?_
      refine vv_imul hC dX0_layShares_54 ?_
      refine vv_aload_n hC dX0_layShares_55 rfl 0 rfl ?_
      refine vv_getf hC hR hK fxX0_20_X0 0 (lx_0 S) rfl dX0_layShares_56 ?_
      refine vv_getf hC hR hK fxX0_147_X1 104 (lx_104 S) rfl dX0_layShares_59 ?_
      obtain ⟨hne, h⟩ := h
      refine vv_idiv hC dX0_layShares_62 hne ?_
      refine vv_dup2 hC dX0_layShares_63 rfl rfl ?_
      obtain ⟨hin208, h⟩ := h
      refine vv_iald hC hR hK 112 (lx_112 S) hin208 dX0_layShares_64 ?_
      refine vv_iload_n hC dX0_layShares_65 rfl 1 rfl ?_
      refine vv_iload hC dX0_layShares_66 5 rfl ?_
      refine vv_ishr hC dX0_layShares_68 ?_
      refine vv_iconst hC dX0_layShares_69 xic_1 ?_
      refine vv_iand hC dX0_layShares_70 ?_
      refine vv_iadd hC dX0_layShares_71 ?_
      obtain ⟨hin209, h⟩ := h
      refine vv_iast hC hR hK 112 (lx_112 S) hin209 dX0_layShares_72 ?_
      refine vv_st (fun y e => ?_)
      obtain ⟨μ6, _⟩ := y
      have eμ6 := congrArg Prod.fst e
      clear e
      replace h := h μ6 eμ6
      refine vv_iinc (pl := 5) (v := v5 + 1) (lv' := [(5, .int (v5 + 1)), (0, .ref (ad 0)), (1, .int v1), (2, .int v2), (3, .int v3), (4, .int v4)]) hC dX0_layShares_73 rfl rfl (by decide) rfl ?_
      refine vv_goto (tgt := 35) hC dX0_layShares_76 rfl ?_
      refine vv_lv [1, 2, 3, 4, 5, 0] rfl ?_
      exact h35 _ _ _ _ _ _ h
  have L12 : ∀ (v1 : Int32) (v2 : Int32) (v3 : Int32) (v4 : Int32) (v5 : Int32) (μ : WS), w_X0_layShares_12 S  v1 v2 v3 v4 v5 μ Q → VV C 7 (HPW D ac ad (knX S) (ExX D ac ad S) (vS C)) (vQ C (QcW D ac ad (knX S) (qV Q)) 0 0 (inLay ad (knX S))) (μ, ()) 12 [(0, .ref (ad 0)), (1, .int v1), (2, .int v2), (3, .int v3), (4, .int v4), (5, .int v5)] [] := by
    intro  v1 v2 v3 v4 v5 μ h
    refine h (fun v1 v2 v3 v4 v5 μ => VV C 7 (HPW D ac ad (knX S) (ExX D ac ad S) (vS C)) (vQ C (QcW D ac ad (knX S) (qV Q)) 0 0 (inLay ad (knX S))) (μ, ()) 12 [(0, .ref (ad 0)), (1, .int v1), (2, .int v2), (3, .int v3), (4, .int v4), (5, .int v5)] []) ?_
    clear h; intro v1 v2 v3 v4 v5 μ h
    have h12 : ∀ (v1 : Int32) (v2 : Int32) (v3 : Int32) (v4 : Int32) (v5 : Int32) (μ : WS), (fun v1 v2 v3 v4 v5 (μ : WS) => VV C 7 (HPW D ac ad (knX S) (ExX D ac ad S) (vS C)) (vQ C (QcW D ac ad (knX S) (qV Q)) 0 0 (inLay ad (knX S))) (μ, ()) 12 [(0, .ref (ad 0)), (1, .int v1), (2, .int v2), (3, .int v3), (4, .int v4), (5, .int v5)] []) v1 v2 v3 v4 v5 μ → VV C 7 (HPW D ac ad (knX S) (ExX D ac ad S) (vS C)) (vQ C (QcW D ac ad (knX S) (qV Q)) 0 0 (inLay ad (knX S))) (μ, ()) 12 [(0, .ref (ad 0)), (1, .int v1), (2, .int v2), (3, .int v3), (4, .int v4), (5, .int v5)] [] := fun _ _ _ _ _ _ h => h
    unfold w_X0_layShares_12b at h
    refine vv_iload hC dX0_layShares_12 5 rfl ?_
    refine vv_iconst hC dX0_layShares_14 xic_4 ?_
    refine vv_icmp_ge (tgt := 32) hC dX0_layShares_15 rfl (fun c3 => ?_) (fun c3 => ?_)
    · replace h := h.1 c3
      refine vv_iconst hC dX0_layShares_32 xic_0 ?_
      refine vv_istore (lv' := [(5, .int 0), (0, .ref (ad 0)), (1, .int v1), (2, .int v2), (3, .int v3), (4, .int v4)]) hC dX0_layShares_33 (by decide) rfl ?_
      refine vv_lv [1, 2, 3, 4, 5, 0] rfl ?_
      exact L35  _ _ _ _ _ _ h
    · replace h := h.2 c3
      refine vv_aload_n hC dX0_layShares_18 rfl 0 rfl ?_
      refine vv_getf hC hR hK fxX0_46_X0 0 (lx_0 S) rfl dX0_layShares_19 ?_
      refine vv_iload hC dX0_layShares_22 5 rfl ?_
      refine vv_iconst hC dX0_layShares_24 xic_0 ?_
      obtain ⟨hin207, h⟩ := h
      refine vv_iast hC hR hK 112 (lx_112 S) hin207 dX0_layShares_25 ?_
      refine vv_st (fun y e => ?_)
      obtain ⟨μ4, _⟩ := y
      have eμ4 := congrArg Prod.fst e
      clear e
      replace h := h μ4 eμ4
      refine vv_iinc (pl := 5) (v := v5 + 1) (lv' := [(5, .int (v5 + 1)), (0, .ref (ad 0)), (1, .int v1), (2, .int v2), (3, .int v3), (4, .int v4)]) hC dX0_layShares_26 rfl rfl (by decide) rfl ?_
      refine vv_goto (tgt := 12) hC dX0_layShares_29 rfl ?_
      refine vv_lv [1, 2, 3, 4, 5, 0] rfl ?_
      exact h12 _ _ _ _ _ _ h
  unfold w_X0_layShares at h
  refine vv_iload_n hC dX0_layShares_0 rfl 1 rfl ?_
  refine vv_callSi hC hR hK hRo hRm [.int v1] [] (met_J15_bitCount (vL C) D ac ad S hLay v1 μ _ h) gxX0_240 mf_J15_bitCount rfl rfl rfl dX0_layShares_1 (fun r2 μ1 h => ?_)
  refine vv_istore_n (lv' := [(3, .int r2), (0, .ref (ad 0)), (1, .int v1), (2, .int v2)]) hC dX0_layShares_4 rfl (by decide) rfl ?_
  refine vv_bipush hC dX0_layShares_5 xbp_100 ?_
  refine vv_istore (lv' := [(4, .int 100), (3, .int r2), (0, .ref (ad 0)), (1, .int v1), (2, .int v2)]) hC dX0_layShares_7 (by decide) rfl ?_
  refine vv_iconst hC dX0_layShares_9 xic_0 ?_
  refine vv_istore (lv' := [(5, .int 0), (4, .int 100), (3, .int r2), (0, .ref (ad 0)), (1, .int v1), (2, .int v2)]) hC dX0_layShares_10 (by decide) rfl ?_
  refine vv_lv [3, 4, 5, 2, 1, 0] rfl ?_
  exact L12  _ _ _ _ _ _ h
def w_X0_share (S : XS) (v1 : Int32) (v2 : Int32) (v3 : Int32) (μ : WS) (Q : Int32 → WS → Prop) : Prop := (w_X0_isRow S v1 μ (fun r2 μ1 => ((r2 = 0) → Q (-1) μ1) ∧ ((¬ r2 = 0) → (w_X0_isIn S v2 1 4 μ1 (fun r5 μ4 => ((r5 = 0) → Q (-1) μ4) ∧ ((¬ r5 = 0) → (w_X0_isIn S v3 0 (v2 - 1) μ4 (fun r8 μ7 => ((¬ r8 = 0) → (w_X0_layShares S v1 v2 μ7 (fun μ10 => (vp_in v3 4 ∧ Q (μ10.1 113 v3.toNatClampNeg) μ10)))) ∧ ((r8 = 0) → Q (-1) μ7)))))))))
abbrev rm_X0_share : Room := { frames := 2, cells := 0, slots := 0, locals := 46 }
theorem mf_X0_share : MFact yX0_share 3 rm_X0_share := ⟨by decide +kernel, rfl, rfl⟩
set_option maxHeartbeats 4000000 in
theorem met_X0_share (l : Launch) (D : va_G) (ac : Nat → ClassId) (ad : Nat → Nat) (S : XS) (hLay : LayOk ad (knX S)) (v1 : Int32) (v2 : Int32) (v3 : Int32) (μ : WS) (Q : Int32 → WS → Prop) (h : w_X0_share S v1 v2 v3 μ Q) : CMet l yX0_share cX0_share 4 (some .int) rm_X0_share D ac ad (knX S) (ExX D ac ad S) [.ref (ad 0), .int v1, .int v2, .int v3] μ (qI Q) := by
  refine vv_met (lv := [(0, .ref (ad 0)), (1, .int v1), (2, .int v2), (3, .int v3)]) (by decide) hLay exX_ok (Nat.le_of_ble_eq_true rfl) rfl ⟨rfl, rfl⟩ (fun C hC hK hRm hLl hR hM => ?_)
  subst hLl
  have hRo : RoomOk (HPW D ac ad (knX S) (ExX D ac ad S) (vS C)) (vR C) := HPW.room
  unfold w_X0_share at h
  refine vv_aload_n hC dX0_share_0 rfl 0 rfl ?_
  refine vv_iload_n hC dX0_share_1 rfl 1 rfl ?_
  refine vv_callVi hC hR hK hRo hRm [.int v1] [] (met_X0_isRow (vL C) D ac ad S hLay v1 μ _ h) gxX0_192 mf_X0_isRow rfl (lx_0 S) rfl rfl rfl rfl dX0_share_2 (fun r2 μ1 h => ?_)
  refine vv_if_eq (tgt := 28) hC dX0_share_5 rfl (fun c3 => ?_) (fun c3 => ?_)
  · replace h := h.1 c3
    refine vv_iconst hC dX0_share_28 xic_m1 ?_
    exact vv_iret hC hM dX0_share_29 h
  · replace h := h.2 c3
    refine vv_iload_n hC dX0_share_8 rfl 2 rfl ?_
    refine vv_iconst hC dX0_share_9 xic_1 ?_
    refine vv_iconst hC dX0_share_10 xic_4 ?_
    refine vv_callSi hC hR hK hRo hRm [.int v2, .int 1, .int 4] [] (met_X0_isIn (vL C) D ac ad S hLay v2 1 4 μ1 _ h) gxX0_150 mf_X0_isIn rfl rfl rfl dX0_share_11 (fun r5 μ4 h => ?_)
    refine vv_if_eq (tgt := 28) hC dX0_share_14 rfl (fun c6 => ?_) (fun c6 => ?_)
    · replace h := h.1 c6
      refine vv_iconst hC dX0_share_28 xic_m1 ?_
      exact vv_iret hC hM dX0_share_29 h
    · replace h := h.2 c6
      refine vv_iload_n hC dX0_share_17 rfl 3 rfl ?_
      refine vv_iconst hC dX0_share_18 xic_0 ?_
      refine vv_iload_n hC dX0_share_19 rfl 2 rfl ?_
      refine vv_iconst hC dX0_share_20 xic_1 ?_
      refine vv_isub hC dX0_share_21 ?_
      refine vv_callSi hC hR hK hRo hRm [.int v3, .int 0, .int (v2 - 1)] [] (met_X0_isIn (vL C) D ac ad S hLay v3 0 (v2 - 1) μ4 _ h) gxX0_150 mf_X0_isIn rfl rfl rfl dX0_share_22 (fun r8 μ7 h => ?_)
      refine vv_if_ne (tgt := 30) hC dX0_share_25 rfl (fun c9 => ?_) (fun c9 => ?_)
      · replace h := h.1 c9
        refine vv_aload_n hC dX0_share_30 rfl 0 rfl ?_
        refine vv_iload_n hC dX0_share_31 rfl 1 rfl ?_
        refine vv_iload_n hC dX0_share_32 rfl 2 rfl ?_
        refine vv_callVv hC hR hK hRo hRm [.int v1, .int v2] [] (met_X0_layShares (vL C) D ac ad S hLay v1 v2 μ7 _ h) gxX0_259 mf_X0_layShares rfl (lx_0 S) rfl rfl rfl rfl dX0_share_33 (fun μ10 h => ?_)
        refine vv_aload_n hC dX0_share_36 rfl 0 rfl ?_
        refine vv_getf hC hR hK fxX0_49_X0 0 (lx_0 S) rfl dX0_share_37 ?_
        refine vv_iload_n hC dX0_share_40 rfl 3 rfl ?_
        obtain ⟨hin220, h⟩ := h
        refine vv_iald hC hR hK 113 (lx_113 S) hin220 dX0_share_41 ?_
        exact vv_iret hC hM dX0_share_42 h
      · replace h := h.2 c9
        refine vv_iconst hC dX0_share_28 xic_m1 ?_
        exact vv_iret hC hM dX0_share_29 h
def w_X0_forge_112 (S : XS) (P55 : Int32 → Int32 → Int32 → Int32 → Int32 → Int32 → Int32 → Int32 → WS → Prop) (v1 : Int32) (v2 : Int32) (v3 : Int32) (v4 : Int32) (v5 : Int32) (v6 : Int32) (v7 : Int32) (v8 : Int32) (μ : WS) (Q : Int32 → WS → Prop) : Prop := P55 v1 v2 v3 v4 v5 v6 v7 (v8 + 1) μ
def w_X0_forge_55b (S : XS) (P55 : Int32 → Int32 → Int32 → Int32 → Int32 → Int32 → Int32 → Int32 → WS → Prop) (v1 : Int32) (v2 : Int32) (v3 : Int32) (v4 : Int32) (v5 : Int32) (v6 : Int32) (v7 : Int32) (v8 : Int32) (μ : WS) (Q : Int32 → WS → Prop) : Prop := (w_X0_rows S μ (fun r17 μ16 => ((r17 ≤ v8) → ((0 ≤ v6) → ((¬ v5 = 0) → Q v6 μ16) ∧ ((v5 = 0) → Q v7 μ16)) ∧ ((¬ 0 ≤ v6) → Q (-1) μ16)) ∧ ((¬ r17 ≤ v8) → (vp_in v1 24 ∧ (w_J15_bitCount S (v8 ^^^ (μ16.1 1001 v1.toNatClampNeg)) μ16 (fun r22 μ21 => ((v7 ≤ r22) → w_X0_forge_112 S P55 v1 v2 v3 v4 v5 v6 v7 v8 μ21 Q) ∧ ((¬ v7 ≤ r22) → (w_X0_castOf S v8 v2 v3 μ21 (fun r25 μ24 => ((r25 = v4) → w_X0_forge_112 S P55 v1 v2 v3 v4 v5 v8 r22 v8 μ24 Q) ∧ ((¬ r25 = v4) → w_X0_forge_112 S P55 v1 v2 v3 v4 v5 v6 v7 v8 μ24 Q))))))))))
def w_X0_forge_55 (S : XS) (v1 : Int32) (v2 : Int32) (v3 : Int32) (v4 : Int32) (v5 : Int32) (v6 : Int32) (v7 : Int32) (v8 : Int32) (μ : WS) (Q : Int32 → WS → Prop) : Prop := ∀ P55 : Int32 → Int32 → Int32 → Int32 → Int32 → Int32 → Int32 → Int32 → WS → Prop, (∀ (v1 : Int32) (v2 : Int32) (v3 : Int32) (v4 : Int32) (v5 : Int32) (v6 : Int32) (v7 : Int32) (v8 : Int32) (μ : WS), w_X0_forge_55b S  P55 v1 v2 v3 v4 v5 v6 v7 v8 μ Q → P55 v1 v2 v3 v4 v5 v6 v7 v8 μ) → P55 v1 v2 v3 v4 v5 v6 v7 v8 μ
def w_X0_forge (S : XS) (v1 : Int32) (v2 : Int32) (v3 : Int32) (v4 : Int32) (v5 : Int32) (μ : WS) (Q : Int32 → WS → Prop) : Prop := (w_X0_isSeal S v1 μ (fun r2 μ1 => ((r2 = 0) → Q (-1) μ1) ∧ ((¬ r2 = 0) → (w_X0_isHand S v2 μ1 (fun r5 μ4 => ((r5 = 0) → Q (-1) μ4) ∧ ((¬ r5 = 0) → (w_X0_isHeat S v3 μ4 (fun r8 μ7 => ((r8 = 0) → Q (-1) μ7) ∧ ((¬ r8 = 0) → (w_X0_isRow S v4 μ7 (fun r11 μ10 => ((r11 = 0) → Q (-1) μ10) ∧ ((¬ r11 = 0) → (w_X0_isIn S v5 0 1 μ10 (fun r14 μ13 => ((¬ r14 = 0) → w_X0_forge_55 S v1 v2 v3 v4 v5 (-1) 1000000 0 μ13 Q) ∧ ((r14 = 0) → Q (-1) μ13)))))))))))))))
abbrev rm_X0_forge : Room := { frames := 1703, cells := 0, slots := 0, locals := 51083 }
theorem mf_X0_forge : MFact yX0_forge 5 rm_X0_forge := ⟨by decide +kernel, rfl, rfl⟩
set_option maxHeartbeats 4000000 in
theorem met_X0_forge (l : Launch) (D : va_G) (ac : Nat → ClassId) (ad : Nat → Nat) (S : XS) (hLay : LayOk ad (knX S)) (v1 : Int32) (v2 : Int32) (v3 : Int32) (v4 : Int32) (v5 : Int32) (μ : WS) (Q : Int32 → WS → Prop) (h : w_X0_forge S v1 v2 v3 v4 v5 μ Q) : CMet l yX0_forge cX0_forge 10 (some .int) rm_X0_forge D ac ad (knX S) (ExX D ac ad S) [.ref (ad 0), .int v1, .int v2, .int v3, .int v4, .int v5] μ (qI Q) := by
  refine vv_met (lv := [(0, .ref (ad 0)), (1, .int v1), (2, .int v2), (3, .int v3), (4, .int v4), (5, .int v5)]) (by decide) hLay exX_ok (Nat.le_of_ble_eq_true rfl) rfl ⟨rfl, rfl⟩ (fun C hC hK hRm hLl hR hM => ?_)
  subst hLl
  have hRo : RoomOk (HPW D ac ad (knX S) (ExX D ac ad S) (vS C)) (vR C) := HPW.room
  have L112 : ∀ (P55 : Int32 → Int32 → Int32 → Int32 → Int32 → Int32 → Int32 → Int32 → WS → Prop) (h55 : ∀ (v1 : Int32) (v2 : Int32) (v3 : Int32) (v4 : Int32) (v5 : Int32) (v6 : Int32) (v7 : Int32) (v8 : Int32) (μ : WS), P55 v1 v2 v3 v4 v5 v6 v7 v8 μ → VV C 10 (HPW D ac ad (knX S) (ExX D ac ad S) (vS C)) (vQ C (QcW D ac ad (knX S) (qI Q)) 0 0 (inLay ad (knX S))) (μ, ()) 55 [(0, .ref (ad 0)), (1, .int v1), (2, .int v2), (3, .int v3), (4, .int v4), (5, .int v5), (6, .int v6), (7, .int v7), (8, .int v8)] []) (v1 : Int32) (v2 : Int32) (v3 : Int32) (v4 : Int32) (v5 : Int32) (v6 : Int32) (v7 : Int32) (v8 : Int32) (μ : WS), w_X0_forge_112 S P55 v1 v2 v3 v4 v5 v6 v7 v8 μ Q → VV C 10 (HPW D ac ad (knX S) (ExX D ac ad S) (vS C)) (vQ C (QcW D ac ad (knX S) (qI Q)) 0 0 (inLay ad (knX S))) (μ, ()) 112 [(0, .ref (ad 0)), (1, .int v1), (2, .int v2), (3, .int v3), (4, .int v4), (5, .int v5), (6, .int v6), (7, .int v7), (8, .int v8)] [] := by
    intro P55 h55 v1 v2 v3 v4 v5 v6 v7 v8 μ h
    unfold w_X0_forge_112 at h
    refine vv_iinc (pl := 8) (v := v8 + 1) (lv' := [(8, .int (v8 + 1)), (0, .ref (ad 0)), (1, .int v1), (2, .int v2), (3, .int v3), (4, .int v4), (5, .int v5), (6, .int v6), (7, .int v7)]) hC dX0_forge_112 rfl rfl (by decide) rfl ?_
    refine vv_goto (tgt := 55) hC dX0_forge_115 rfl ?_
    refine vv_lv [1, 2, 3, 4, 5, 6, 7, 8, 0] rfl ?_
    exact h55 _ _ _ _ _ _ _ _ _ h
  have L55 : ∀ (v1 : Int32) (v2 : Int32) (v3 : Int32) (v4 : Int32) (v5 : Int32) (v6 : Int32) (v7 : Int32) (v8 : Int32) (μ : WS), w_X0_forge_55 S  v1 v2 v3 v4 v5 v6 v7 v8 μ Q → VV C 10 (HPW D ac ad (knX S) (ExX D ac ad S) (vS C)) (vQ C (QcW D ac ad (knX S) (qI Q)) 0 0 (inLay ad (knX S))) (μ, ()) 55 [(0, .ref (ad 0)), (1, .int v1), (2, .int v2), (3, .int v3), (4, .int v4), (5, .int v5), (6, .int v6), (7, .int v7), (8, .int v8)] [] := by
    intro  v1 v2 v3 v4 v5 v6 v7 v8 μ h
    refine h (fun v1 v2 v3 v4 v5 v6 v7 v8 μ => VV C 10 (HPW D ac ad (knX S) (ExX D ac ad S) (vS C)) (vQ C (QcW D ac ad (knX S) (qI Q)) 0 0 (inLay ad (knX S))) (μ, ()) 55 [(0, .ref (ad 0)), (1, .int v1), (2, .int v2), (3, .int v3), (4, .int v4), (5, .int v5), (6, .int v6), (7, .int v7), (8, .int v8)] []) ?_
    clear h; intro v1 v2 v3 v4 v5 v6 v7 v8 μ h
    have h55 : ∀ (v1 : Int32) (v2 : Int32) (v3 : Int32) (v4 : Int32) (v5 : Int32) (v6 : Int32) (v7 : Int32) (v8 : Int32) (μ : WS), (fun v1 v2 v3 v4 v5 v6 v7 v8 (μ : WS) => VV C 10 (HPW D ac ad (knX S) (ExX D ac ad S) (vS C)) (vQ C (QcW D ac ad (knX S) (qI Q)) 0 0 (inLay ad (knX S))) (μ, ()) 55 [(0, .ref (ad 0)), (1, .int v1), (2, .int v2), (3, .int v3), (4, .int v4), (5, .int v5), (6, .int v6), (7, .int v7), (8, .int v8)] []) v1 v2 v3 v4 v5 v6 v7 v8 μ → VV C 10 (HPW D ac ad (knX S) (ExX D ac ad S) (vS C)) (vQ C (QcW D ac ad (knX S) (qI Q)) 0 0 (inLay ad (knX S))) (μ, ()) 55 [(0, .ref (ad 0)), (1, .int v1), (2, .int v2), (3, .int v3), (4, .int v4), (5, .int v5), (6, .int v6), (7, .int v7), (8, .int v8)] [] := fun _ _ _ _ _ _ _ _ _ h => h
    unfold w_X0_forge_55b at h
    refine vv_iload hC dX0_forge_55 8 rfl ?_
    refine vv_aload_n hC dX0_forge_57 rfl 0 rfl ?_
    refine vv_callVi hC hR hK hRo hRm [] [.int v8] (met_X0_rows (vL C) D ac ad S hLay  μ _ h) gxX0_157 mf_X0_rows rfl (lx_0 S) rfl rfl rfl rfl dX0_forge_58 (fun r17 μ16 h => ?_)
    refine vv_icmp_ge (tgt := 118) hC dX0_forge_61 rfl (fun c18 => ?_) (fun c18 => ?_)
    · replace h := h.1 c18
      refine vv_iload hC dX0_forge_118 6 rfl ?_
      refine vv_if_ge (tgt := 127) hC dX0_forge_120 rfl (fun c19 => ?_) (fun c19 => ?_)
      · replace h := h.1 c19
        refine vv_iload hC dX0_forge_127 5 rfl ?_
        refine vv_if_ne (tgt := 137) hC dX0_forge_129 rfl (fun c20 => ?_) (fun c20 => ?_)
        · replace h := h.1 c20
          refine vv_iload hC dX0_forge_137 6 rfl ?_
          exact vv_iret hC hM dX0_forge_139 h
        · replace h := h.2 c20
          refine vv_iload hC dX0_forge_132 7 rfl ?_
          refine vv_goto (tgt := 139) hC dX0_forge_134 rfl ?_
          exact vv_iret hC hM dX0_forge_139 h
      · replace h := h.2 c19
        refine vv_iconst hC dX0_forge_123 xic_m1 ?_
        refine vv_goto (tgt := 139) hC dX0_forge_124 rfl ?_
        exact vv_iret hC hM dX0_forge_139 h
    · replace h := h.2 c18
      refine vv_iload hC dX0_forge_64 8 rfl ?_
      refine vv_aload_n hC dX0_forge_66 rfl 0 rfl ?_
      refine vv_getf hC hR hK fxX0_31_X0 0 (lx_0 S) rfl dX0_forge_67 ?_
      refine vv_getf hC hR hK fxX0_164_X3 1000 (lx_1000 S) rfl dX0_forge_70 ?_
      refine vv_iload_n hC dX0_forge_73 rfl 1 rfl ?_
      obtain ⟨hin221, h⟩ := h
      refine vv_iald hC hR hK 1001 (lx_1001 S) hin221 dX0_forge_74 ?_
      refine vv_ixor hC dX0_forge_75 ?_
      refine vv_callSi hC hR hK hRo hRm [.int (v8 ^^^ (μ16.1 1001 v1.toNatClampNeg))] [] (met_J15_bitCount (vL C) D ac ad S hLay (v8 ^^^ (μ16.1 1001 v1.toNatClampNeg)) μ16 _ h) gxX0_240 mf_J15_bitCount rfl rfl rfl dX0_forge_76 (fun r22 μ21 h => ?_)
      refine vv_istore (lv' := [(9, .int r22), (0, .ref (ad 0)), (1, .int v1), (2, .int v2), (3, .int v3), (4, .int v4), (5, .int v5), (6, .int v6), (7, .int v7), (8, .int v8)]) hC dX0_forge_79 (by decide) rfl ?_
      refine vv_iload hC dX0_forge_81 0 rfl ?_
      refine vv_iload hC dX0_forge_83 8 rfl ?_
      refine vv_icmp_ge (tgt := 112) hC dX0_forge_85 rfl (fun c23 => ?_) (fun c23 => ?_)
      · replace h := h.1 c23
        refine vv_lv [1, 2, 3, 4, 5, 6, 7, 8, 9] rfl ?_
        exact L112 _ h55 _ _ _ _ _ _ _ _ _ h
      · replace h := h.2 c23
        refine vv_aload_n hC dX0_forge_88 rfl 1 rfl ?_
        refine vv_iload hC dX0_forge_89 9 rfl ?_
        refine vv_iload_n hC dX0_forge_91 rfl 3 rfl ?_
        refine vv_iload_n hC dX0_forge_92 rfl 4 rfl ?_
        refine vv_callVi hC hR hK hRo hRm [.int v8, .int v2, .int v3] [] (met_X0_castOf (vL C) D ac ad S hLay v8 v2 v3 μ21 _ h) gxX0_236 mf_X0_castOf rfl (lx_0 S) rfl rfl rfl rfl dX0_forge_93 (fun r25 μ24 h => ?_)
        refine vv_iload hC dX0_forge_96 5 rfl ?_
        refine vv_icmp_eq (tgt := 104) hC dX0_forge_98 rfl (fun c26 => ?_) (fun c26 => ?_)
        · replace h := h.1 c26
          refine vv_iload hC dX0_forge_104 9 rfl ?_
          refine vv_istore (lv' := [(6, .int v8), (9, .int r22), (0, .ref (ad 0)), (1, .int v1), (2, .int v2), (3, .int v3), (4, .int v4), (5, .int v5), (7, .int v7), (8, .int v8)]) hC dX0_forge_106 (by decide) rfl ?_
          refine vv_iload hC dX0_forge_108 1 rfl ?_
          refine vv_istore (lv' := [(7, .int r22), (6, .int v8), (9, .int r22), (0, .ref (ad 0)), (1, .int v1), (2, .int v2), (3, .int v3), (4, .int v4), (5, .int v5), (8, .int v8)]) hC dX0_forge_110 (by decide) rfl ?_
          refine vv_lv [3, 4, 5, 6, 7, 8, 1, 0, 9] rfl ?_
          exact L112 _ h55 _ _ _ _ _ _ _ _ _ h
        · replace h := h.2 c26
          refine vv_goto (tgt := 112) hC dX0_forge_101 rfl ?_
          refine vv_lv [1, 2, 3, 4, 5, 6, 7, 8, 9] rfl ?_
          exact L112 _ h55 _ _ _ _ _ _ _ _ _ h
  unfold w_X0_forge at h
  refine vv_aload_n hC dX0_forge_0 rfl 0 rfl ?_
  refine vv_iload_n hC dX0_forge_1 rfl 1 rfl ?_
  refine vv_callVi hC hR hK hRo hRm [.int v1] [] (met_X0_isSeal (vL C) D ac ad S hLay v1 μ _ h) gxX0_160 mf_X0_isSeal rfl (lx_0 S) rfl rfl rfl rfl dX0_forge_2 (fun r2 μ1 h => ?_)
  refine vv_if_eq (tgt := 42) hC dX0_forge_5 rfl (fun c3 => ?_) (fun c3 => ?_)
  · replace h := h.1 c3
    refine vv_iconst hC dX0_forge_42 xic_m1 ?_
    exact vv_iret hC hM dX0_forge_43 h
  · replace h := h.2 c3
    refine vv_aload_n hC dX0_forge_8 rfl 0 rfl ?_
    refine vv_iload_n hC dX0_forge_9 rfl 2 rfl ?_
    refine vv_callVi hC hR hK hRo hRm [.int v2] [] (met_X0_isHand (vL C) D ac ad S hLay v2 μ1 _ h) gxX0_204 mf_X0_isHand rfl (lx_0 S) rfl rfl rfl rfl dX0_forge_10 (fun r5 μ4 h => ?_)
    refine vv_if_eq (tgt := 42) hC dX0_forge_13 rfl (fun c6 => ?_) (fun c6 => ?_)
    · replace h := h.1 c6
      refine vv_iconst hC dX0_forge_42 xic_m1 ?_
      exact vv_iret hC hM dX0_forge_43 h
    · replace h := h.2 c6
      refine vv_iload_n hC dX0_forge_16 rfl 3 rfl ?_
      refine vv_callSi hC hR hK hRo hRm [.int v3] [] (met_X0_isHeat (vL C) D ac ad S hLay v3 μ4 _ h) gxX0_207 mf_X0_isHeat rfl rfl rfl dX0_forge_17 (fun r8 μ7 h => ?_)
      refine vv_if_eq (tgt := 42) hC dX0_forge_20 rfl (fun c9 => ?_) (fun c9 => ?_)
      · replace h := h.1 c9
        refine vv_iconst hC dX0_forge_42 xic_m1 ?_
        exact vv_iret hC hM dX0_forge_43 h
      · replace h := h.2 c9
        refine vv_aload_n hC dX0_forge_23 rfl 0 rfl ?_
        refine vv_iload hC dX0_forge_24 4 rfl ?_
        refine vv_callVi hC hR hK hRo hRm [.int v4] [] (met_X0_isRow (vL C) D ac ad S hLay v4 μ7 _ h) gxX0_192 mf_X0_isRow rfl (lx_0 S) rfl rfl rfl rfl dX0_forge_26 (fun r11 μ10 h => ?_)
        refine vv_if_eq (tgt := 42) hC dX0_forge_29 rfl (fun c12 => ?_) (fun c12 => ?_)
        · replace h := h.1 c12
          refine vv_iconst hC dX0_forge_42 xic_m1 ?_
          exact vv_iret hC hM dX0_forge_43 h
        · replace h := h.2 c12
          refine vv_iload hC dX0_forge_32 5 rfl ?_
          refine vv_iconst hC dX0_forge_34 xic_0 ?_
          refine vv_iconst hC dX0_forge_35 xic_1 ?_
          refine vv_callSi hC hR hK hRo hRm [.int v5, .int 0, .int 1] [] (met_X0_isIn (vL C) D ac ad S hLay v5 0 1 μ10 _ h) gxX0_150 mf_X0_isIn rfl rfl rfl dX0_forge_36 (fun r14 μ13 h => ?_)
          refine vv_if_ne (tgt := 44) hC dX0_forge_39 rfl (fun c15 => ?_) (fun c15 => ?_)
          · replace h := h.1 c15
            refine vv_iconst hC dX0_forge_44 xic_m1 ?_
            refine vv_istore (lv' := [(6, .int (-1)), (0, .ref (ad 0)), (1, .int v1), (2, .int v2), (3, .int v3), (4, .int v4), (5, .int v5)]) hC dX0_forge_45 (by decide) rfl ?_
            refine vv_ldcw hC q1337 dX0_forge_47 ?_
            refine vv_istore (lv' := [(7, .int 1000000), (6, .int (-1)), (0, .ref (ad 0)), (1, .int v1), (2, .int v2), (3, .int v3), (4, .int v4), (5, .int v5)]) hC dX0_forge_50 (by decide) rfl ?_
            refine vv_iconst hC dX0_forge_52 xic_0 ?_
            refine vv_istore (lv' := [(8, .int 0), (7, .int 1000000), (6, .int (-1)), (0, .ref (ad 0)), (1, .int v1), (2, .int v2), (3, .int v3), (4, .int v4), (5, .int v5)]) hC dX0_forge_53 (by decide) rfl ?_
            refine vv_lv [3, 4, 5, 6, 7, 8, 2, 1, 0] rfl ?_
            exact L55  _ _ _ _ _ _ _ _ _ h
          · replace h := h.2 c15
            refine vv_iconst hC dX0_forge_42 xic_m1 ?_
            exact vv_iret hC hM dX0_forge_43 h
def w_X0_nearest_121 (S : XS) (P29 : Int32 → Int32 → Int32 → Int32 → Int32 → WS → Prop) (v1 : Int32) (v2 : Int32) (v3 : Int32) (v4 : Int32) (v5 : Int32) (μ : WS) (Q : Int32 → WS → Prop) : Prop := P29 v1 v2 v3 v4 (v5 + 1) μ
def w_X0_nearest_98 (S : XS) (P29 : Int32 → Int32 → Int32 → Int32 → Int32 → WS → Prop) (s0 : Int32) (s1 : Int32) (v1 : Int32) (v2 : Int32) (v3 : Int32) (v4 : Int32) (v5 : Int32) (μ : WS) (Q : Int32 → WS → Prop) : Prop := (w_J15_bitCount S (s1 ^^^ s0) μ (fun r15 μ14 => ((r15 < v4) → w_X0_nearest_121 S P29 v1 v2 v5 r15 v5 μ14 Q) ∧ ((¬ r15 < v4) → w_X0_nearest_121 S P29 v1 v2 v3 v4 v5 μ14 Q)))
def w_X0_nearest_29b (S : XS) (P29 : Int32 → Int32 → Int32 → Int32 → Int32 → WS → Prop) (v1 : Int32) (v2 : Int32) (v3 : Int32) (v4 : Int32) (v5 : Int32) (μ : WS) (Q : Int32 → WS → Prop) : Prop := ((2 * (μ.1 1000 7) ≤ v5) → ((¬ v2 = 0) → ((¬ v2 = 1) → (¬ μ.1 1000 7 = 0 ∧ Q (v3 / (μ.1 1000 7)) μ)) ∧ ((v2 = 1) → (¬ μ.1 1000 7 = 0 ∧ Q (v3 - v3 / (μ.1 1000 7) * (μ.1 1000 7)) μ))) ∧ ((v2 = 0) → Q v4 μ)) ∧ ((¬ 2 * (μ.1 1000 7) ≤ v5) → (¬ μ.1 1000 7 = 0 ∧ (∀ x10 : Int32, x10 = v5 - v5 / (μ.1 1000 7) * (μ.1 1000 7) → ((μ.1 1000 7 ≤ v5) → (vp_in x10 24 ∧ w_X0_nearest_98 S P29 (μ.1 1001 x10.toNatClampNeg) v1 v1 v2 v3 v4 v5 μ Q)) ∧ ((¬ μ.1 1000 7 ≤ v5) → (vp_in x10 24 ∧ (w_X1_turn S (μ.1 1001 x10.toNatClampNeg) μ (fun r13 μ12 => w_X0_nearest_98 S P29 r13 v1 v1 v2 v3 v4 v5 μ12 Q)))))))
def w_X0_nearest_29 (S : XS) (v1 : Int32) (v2 : Int32) (v3 : Int32) (v4 : Int32) (v5 : Int32) (μ : WS) (Q : Int32 → WS → Prop) : Prop := ∀ P29 : Int32 → Int32 → Int32 → Int32 → Int32 → WS → Prop, (∀ (v1 : Int32) (v2 : Int32) (v3 : Int32) (v4 : Int32) (v5 : Int32) (μ : WS), w_X0_nearest_29b S  P29 v1 v2 v3 v4 v5 μ Q → P29 v1 v2 v3 v4 v5 μ) → P29 v1 v2 v3 v4 v5 μ
def w_X0_nearest (S : XS) (v1 : Int32) (v2 : Int32) (μ : WS) (Q : Int32 → WS → Prop) : Prop := (w_X0_isRow S v1 μ (fun r2 μ1 => ((r2 = 0) → Q (-1) μ1) ∧ ((¬ r2 = 0) → (w_X0_isIn S v2 0 2 μ1 (fun r5 μ4 => ((¬ r5 = 0) → w_X0_nearest_29 S v1 v2 0 1000000 0 μ4 Q) ∧ ((r5 = 0) → Q (-1) μ4))))))
abbrev rm_X0_nearest : Room := { frames := 2, cells := 0, slots := 0, locals := 43 }
theorem mf_X0_nearest : MFact yX0_nearest 2 rm_X0_nearest := ⟨by decide +kernel, rfl, rfl⟩
set_option maxHeartbeats 4000000 in
theorem met_X0_nearest (l : Launch) (D : va_G) (ac : Nat → ClassId) (ad : Nat → Nat) (S : XS) (hLay : LayOk ad (knX S)) (v1 : Int32) (v2 : Int32) (μ : WS) (Q : Int32 → WS → Prop) (h : w_X0_nearest S v1 v2 μ Q) : CMet l yX0_nearest cX0_nearest 8 (some .int) rm_X0_nearest D ac ad (knX S) (ExX D ac ad S) [.ref (ad 0), .int v1, .int v2] μ (qI Q) := by
  refine vv_met (lv := [(0, .ref (ad 0)), (1, .int v1), (2, .int v2)]) (by decide) hLay exX_ok (Nat.le_of_ble_eq_true rfl) rfl ⟨rfl, rfl⟩ (fun C hC hK hRm hLl hR hM => ?_)
  subst hLl
  have hRo : RoomOk (HPW D ac ad (knX S) (ExX D ac ad S) (vS C)) (vR C) := HPW.room
  have L121 : ∀ (P29 : Int32 → Int32 → Int32 → Int32 → Int32 → WS → Prop) (h29 : ∀ (v1 : Int32) (v2 : Int32) (v3 : Int32) (v4 : Int32) (v5 : Int32) (μ : WS), P29 v1 v2 v3 v4 v5 μ → VV C 8 (HPW D ac ad (knX S) (ExX D ac ad S) (vS C)) (vQ C (QcW D ac ad (knX S) (qI Q)) 0 0 (inLay ad (knX S))) (μ, ()) 29 [(0, .ref (ad 0)), (1, .int v1), (2, .int v2), (3, .int v3), (4, .int v4), (5, .int v5)] []) (v1 : Int32) (v2 : Int32) (v3 : Int32) (v4 : Int32) (v5 : Int32) (μ : WS), w_X0_nearest_121 S P29 v1 v2 v3 v4 v5 μ Q → VV C 8 (HPW D ac ad (knX S) (ExX D ac ad S) (vS C)) (vQ C (QcW D ac ad (knX S) (qI Q)) 0 0 (inLay ad (knX S))) (μ, ()) 121 [(0, .ref (ad 0)), (1, .int v1), (2, .int v2), (3, .int v3), (4, .int v4), (5, .int v5)] [] := by
    intro P29 h29 v1 v2 v3 v4 v5 μ h
    unfold w_X0_nearest_121 at h
    refine vv_iinc (pl := 5) (v := v5 + 1) (lv' := [(5, .int (v5 + 1)), (0, .ref (ad 0)), (1, .int v1), (2, .int v2), (3, .int v3), (4, .int v4)]) hC dX0_nearest_121 rfl rfl (by decide) rfl ?_
    refine vv_goto (tgt := 29) hC dX0_nearest_124 rfl ?_
    refine vv_lv [1, 2, 3, 4, 5, 0] rfl ?_
    exact h29 _ _ _ _ _ _ h
  have L98 : ∀ (P29 : Int32 → Int32 → Int32 → Int32 → Int32 → WS → Prop) (h29 : ∀ (v1 : Int32) (v2 : Int32) (v3 : Int32) (v4 : Int32) (v5 : Int32) (μ : WS), P29 v1 v2 v3 v4 v5 μ → VV C 8 (HPW D ac ad (knX S) (ExX D ac ad S) (vS C)) (vQ C (QcW D ac ad (knX S) (qI Q)) 0 0 (inLay ad (knX S))) (μ, ()) 29 [(0, .ref (ad 0)), (1, .int v1), (2, .int v2), (3, .int v3), (4, .int v4), (5, .int v5)] []) (s0 : Int32) (s1 : Int32) (v1 : Int32) (v2 : Int32) (v3 : Int32) (v4 : Int32) (v5 : Int32) (μ : WS), w_X0_nearest_98 S P29 s0 s1 v1 v2 v3 v4 v5 μ Q → VV C 8 (HPW D ac ad (knX S) (ExX D ac ad S) (vS C)) (vQ C (QcW D ac ad (knX S) (qI Q)) 0 0 (inLay ad (knX S))) (μ, ()) 98 [(0, .ref (ad 0)), (1, .int v1), (2, .int v2), (3, .int v3), (4, .int v4), (5, .int v5)] [.int s0, .int s1] := by
    intro P29 h29 s0 s1 v1 v2 v3 v4 v5 μ h
    unfold w_X0_nearest_98 at h
    refine vv_ixor hC dX0_nearest_98 ?_
    refine vv_callSi hC hR hK hRo hRm [.int (s1 ^^^ s0)] [] (met_J15_bitCount (vL C) D ac ad S hLay (s1 ^^^ s0) μ _ h) gxX0_240 mf_J15_bitCount rfl rfl rfl dX0_nearest_99 (fun r15 μ14 h => ?_)
    refine vv_istore (lv' := [(7, .int r15), (0, .ref (ad 0)), (1, .int v1), (2, .int v2), (3, .int v3), (4, .int v4), (5, .int v5)]) hC dX0_nearest_102 (by decide) rfl ?_
    refine vv_iload hC dX0_nearest_104 0 rfl ?_
    refine vv_iload hC dX0_nearest_106 5 rfl ?_
    refine vv_icmp_lt (tgt := 114) hC dX0_nearest_108 rfl (fun c16 => ?_) (fun c16 => ?_)
    · replace h := h.1 c16
      refine vv_iload hC dX0_nearest_114 6 rfl ?_
      refine vv_istore_n (lv' := [(3, .int v5), (7, .int r15), (0, .ref (ad 0)), (1, .int v1), (2, .int v2), (4, .int v4), (5, .int v5)]) hC dX0_nearest_116 rfl (by decide) rfl ?_
      refine vv_iload hC dX0_nearest_117 1 rfl ?_
      refine vv_istore (lv' := [(4, .int r15), (3, .int v5), (7, .int r15), (0, .ref (ad 0)), (1, .int v1), (2, .int v2), (5, .int v5)]) hC dX0_nearest_119 (by decide) rfl ?_
      refine vv_lv [3, 4, 5, 1, 0, 6] rfl ?_
      exact L121 _ h29 _ _ _ _ _ _ h
    · replace h := h.2 c16
      refine vv_goto (tgt := 121) hC dX0_nearest_111 rfl ?_
      refine vv_lv [1, 2, 3, 4, 5, 6] rfl ?_
      exact L121 _ h29 _ _ _ _ _ _ h
  have L29 : ∀ (v1 : Int32) (v2 : Int32) (v3 : Int32) (v4 : Int32) (v5 : Int32) (μ : WS), w_X0_nearest_29 S  v1 v2 v3 v4 v5 μ Q → VV C 8 (HPW D ac ad (knX S) (ExX D ac ad S) (vS C)) (vQ C (QcW D ac ad (knX S) (qI Q)) 0 0 (inLay ad (knX S))) (μ, ()) 29 [(0, .ref (ad 0)), (1, .int v1), (2, .int v2), (3, .int v3), (4, .int v4), (5, .int v5)] [] := by
    intro  v1 v2 v3 v4 v5 μ h
    refine h (fun v1 v2 v3 v4 v5 μ => VV C 8 (HPW D ac ad (knX S) (ExX D ac ad S) (vS C)) (vQ C (QcW D ac ad (knX S) (qI Q)) 0 0 (inLay ad (knX S))) (μ, ()) 29 [(0, .ref (ad 0)), (1, .int v1), (2, .int v2), (3, .int v3), (4, .int v4), (5, .int v5)] []) ?_
    clear h; intro v1 v2 v3 v4 v5 μ h
    have h29 : ∀ (v1 : Int32) (v2 : Int32) (v3 : Int32) (v4 : Int32) (v5 : Int32) (μ : WS), (fun v1 v2 v3 v4 v5 (μ : WS) => VV C 8 (HPW D ac ad (knX S) (ExX D ac ad S) (vS C)) (vQ C (QcW D ac ad (knX S) (qI Q)) 0 0 (inLay ad (knX S))) (μ, ()) 29 [(0, .ref (ad 0)), (1, .int v1), (2, .int v2), (3, .int v3), (4, .int v4), (5, .int v5)] []) v1 v2 v3 v4 v5 μ → VV C 8 (HPW D ac ad (knX S) (ExX D ac ad S) (vS C)) (vQ C (QcW D ac ad (knX S) (qI Q)) 0 0 (inLay ad (knX S))) (μ, ()) 29 [(0, .ref (ad 0)), (1, .int v1), (2, .int v2), (3, .int v3), (4, .int v4), (5, .int v5)] [] := fun _ _ _ _ _ _ h => h
    unfold w_X0_nearest_29b at h
    refine vv_iload hC dX0_nearest_29 5 rfl ?_
    refine vv_iconst hC dX0_nearest_31 xic_2 ?_
    refine vv_aload_n hC dX0_nearest_32 rfl 0 rfl ?_
    refine vv_getf hC hR hK fxX0_31_X0 0 (lx_0 S) rfl dX0_nearest_33 ?_
    refine vv_getf hC hR hK fxX0_154_X3 1000 (lx_1000 S) rfl dX0_nearest_36 ?_
    refine vv_imul hC dX0_nearest_39 ?_
    refine vv_icmp_ge (tgt := 127) hC dX0_nearest_40 rfl (fun c7 => ?_) (fun c7 => ?_)
    · replace h := h.1 c7
      refine vv_iload_n hC dX0_nearest_127 rfl 2 rfl ?_
      refine vv_if_ne (tgt := 136) hC dX0_nearest_128 rfl (fun c8 => ?_) (fun c8 => ?_)
      · replace h := h.1 c8
        refine vv_iload_n hC dX0_nearest_136 rfl 2 rfl ?_
        refine vv_iconst hC dX0_nearest_137 xic_1 ?_
        refine vv_icmp_ne (tgt := 153) hC dX0_nearest_138 rfl (fun c9 => ?_) (fun c9 => ?_)
        · replace h := h.1 c9
          refine vv_iload_n hC dX0_nearest_153 rfl 3 rfl ?_
          refine vv_aload_n hC dX0_nearest_154 rfl 0 rfl ?_
          refine vv_getf hC hR hK fxX0_31_X0 0 (lx_0 S) rfl dX0_nearest_155 ?_
          refine vv_getf hC hR hK fxX0_154_X3 1000 (lx_1000 S) rfl dX0_nearest_158 ?_
          obtain ⟨hne, h⟩ := h
          refine vv_idiv hC dX0_nearest_161 hne ?_
          exact vv_iret hC hM dX0_nearest_162 h
        · replace h := h.2 c9
          refine vv_iload_n hC dX0_nearest_141 rfl 3 rfl ?_
          refine vv_aload_n hC dX0_nearest_142 rfl 0 rfl ?_
          refine vv_getf hC hR hK fxX0_31_X0 0 (lx_0 S) rfl dX0_nearest_143 ?_
          refine vv_getf hC hR hK fxX0_154_X3 1000 (lx_1000 S) rfl dX0_nearest_146 ?_
          obtain ⟨hne, h⟩ := h
          refine vv_irem hC dX0_nearest_149 hne ?_
          refine vv_goto (tgt := 162) hC dX0_nearest_150 rfl ?_
          exact vv_iret hC hM dX0_nearest_162 h
      · replace h := h.2 c8
        refine vv_iload hC dX0_nearest_131 4 rfl ?_
        refine vv_goto (tgt := 162) hC dX0_nearest_133 rfl ?_
        exact vv_iret hC hM dX0_nearest_162 h
    · replace h := h.2 c7
      refine vv_iload hC dX0_nearest_43 5 rfl ?_
      refine vv_aload_n hC dX0_nearest_45 rfl 0 rfl ?_
      refine vv_getf hC hR hK fxX0_31_X0 0 (lx_0 S) rfl dX0_nearest_46 ?_
      refine vv_getf hC hR hK fxX0_154_X3 1000 (lx_1000 S) rfl dX0_nearest_49 ?_
      obtain ⟨hne, h⟩ := h
      refine vv_irem hC dX0_nearest_52 hne ?_
      refine vv_topi (fun x10 ex10 => ?_)
      replace h := h x10 ex10
      refine vv_istore (lv' := [(6, .int x10), (0, .ref (ad 0)), (1, .int v1), (2, .int v2), (3, .int v3), (4, .int v4), (5, .int v5)]) hC dX0_nearest_53 (by decide) rfl ?_
      refine vv_iload_n hC dX0_nearest_55 rfl 2 rfl ?_
      refine vv_iload hC dX0_nearest_56 6 rfl ?_
      refine vv_aload_n hC dX0_nearest_58 rfl 1 rfl ?_
      refine vv_getf hC hR hK fxX0_31_X0 0 (lx_0 S) rfl dX0_nearest_59 ?_
      refine vv_getf hC hR hK fxX0_154_X3 1000 (lx_1000 S) rfl dX0_nearest_62 ?_
      refine vv_icmp_ge (tgt := 88) hC dX0_nearest_65 rfl (fun c11 => ?_) (fun c11 => ?_)
      · replace h := h.1 c11
        refine vv_aload_n hC dX0_nearest_88 rfl 1 rfl ?_
        refine vv_getf hC hR hK fxX0_31_X0 0 (lx_0 S) rfl dX0_nearest_89 ?_
        refine vv_getf hC hR hK fxX0_164_X3 1000 (lx_1000 S) rfl dX0_nearest_92 ?_
        refine vv_iload hC dX0_nearest_95 0 rfl ?_
        obtain ⟨hin222, h⟩ := h
        refine vv_iald hC hR hK 1001 (lx_1001 S) hin222 dX0_nearest_97 ?_
        refine vv_lv [1, 2, 3, 4, 5, 6] rfl ?_
        exact L98 _ h29 _ _ _ _ _ _ _ _ h
      · replace h := h.2 c11
        refine vv_aload_n hC dX0_nearest_68 rfl 1 rfl ?_
        refine vv_getf hC hR hK fxX0_20_X0 0 (lx_0 S) rfl dX0_nearest_69 ?_
        refine vv_aload_n hC dX0_nearest_72 rfl 1 rfl ?_
        refine vv_getf hC hR hK fxX0_31_X0 0 (lx_0 S) rfl dX0_nearest_73 ?_
        refine vv_getf hC hR hK fxX0_164_X3 1000 (lx_1000 S) rfl dX0_nearest_76 ?_
        refine vv_iload hC dX0_nearest_79 0 rfl ?_
        obtain ⟨hin223, h⟩ := h
        refine vv_iald hC hR hK 1001 (lx_1001 S) hin223 dX0_nearest_81 ?_
        refine vv_callVi hC hR hK hRo hRm [.int (μ.1 1001 x10.toNatClampNeg)] [.int v1] (met_X1_turn (vL C) D ac ad S hLay (μ.1 1001 x10.toNatClampNeg) μ _ h) gxX0_195 mf_X1_turn rfl (lx_104 S) rfl rfl rfl rfl dX0_nearest_82 (fun r13 μ12 h => ?_)
        refine vv_goto (tgt := 98) hC dX0_nearest_85 rfl ?_
        refine vv_lv [1, 2, 3, 4, 5, 6] rfl ?_
        exact L98 _ h29 _ _ _ _ _ _ _ _ h
  unfold w_X0_nearest at h
  refine vv_aload_n hC dX0_nearest_0 rfl 0 rfl ?_
  refine vv_iload_n hC dX0_nearest_1 rfl 1 rfl ?_
  refine vv_callVi hC hR hK hRo hRm [.int v1] [] (met_X0_isRow (vL C) D ac ad S hLay v1 μ _ h) gxX0_192 mf_X0_isRow rfl (lx_0 S) rfl rfl rfl rfl dX0_nearest_2 (fun r2 μ1 h => ?_)
  refine vv_if_eq (tgt := 17) hC dX0_nearest_5 rfl (fun c3 => ?_) (fun c3 => ?_)
  · replace h := h.1 c3
    refine vv_iconst hC dX0_nearest_17 xic_m1 ?_
    exact vv_iret hC hM dX0_nearest_18 h
  · replace h := h.2 c3
    refine vv_iload_n hC dX0_nearest_8 rfl 2 rfl ?_
    refine vv_iconst hC dX0_nearest_9 xic_0 ?_
    refine vv_iconst hC dX0_nearest_10 xic_2 ?_
    refine vv_callSi hC hR hK hRo hRm [.int v2, .int 0, .int 2] [] (met_X0_isIn (vL C) D ac ad S hLay v2 0 2 μ1 _ h) gxX0_150 mf_X0_isIn rfl rfl rfl dX0_nearest_11 (fun r5 μ4 h => ?_)
    refine vv_if_ne (tgt := 19) hC dX0_nearest_14 rfl (fun c6 => ?_) (fun c6 => ?_)
    · replace h := h.1 c6
      refine vv_iconst hC dX0_nearest_19 xic_0 ?_
      refine vv_istore_n (lv' := [(3, .int 0), (0, .ref (ad 0)), (1, .int v1), (2, .int v2)]) hC dX0_nearest_20 rfl (by decide) rfl ?_
      refine vv_ldcw hC q1337 dX0_nearest_21 ?_
      refine vv_istore (lv' := [(4, .int 1000000), (3, .int 0), (0, .ref (ad 0)), (1, .int v1), (2, .int v2)]) hC dX0_nearest_24 (by decide) rfl ?_
      refine vv_iconst hC dX0_nearest_26 xic_0 ?_
      refine vv_istore (lv' := [(5, .int 0), (4, .int 1000000), (3, .int 0), (0, .ref (ad 0)), (1, .int v1), (2, .int v2)]) hC dX0_nearest_27 (by decide) rfl ?_
      refine vv_lv [3, 4, 5, 2, 1, 0] rfl ?_
      exact L29  _ _ _ _ _ _ h
    · replace h := h.2 c6
      refine vv_iconst hC dX0_nearest_17 xic_m1 ?_
      exact vv_iret hC hM dX0_nearest_18 h
def w_X0_common_78b (S : XS) (P78 : Int32 → Int32 → Int32 → Int32 → Int32 → WS → Prop) (v1 : Int32) (v2 : Int32) (v3 : Int32) (v4 : Int32) (v5 : Int32) (μ : WS) (Q : Int32 → WS → Prop) : Prop := ((μ.1 1000 8 ≤ v5) → ((¬ v1 = 0) → ((¬ v1 = 1) → Q v4 μ) ∧ ((v1 = 1) → Q v3 μ)) ∧ ((v1 = 0) → Q v2 μ)) ∧ ((¬ μ.1 1000 8 ≤ v5) → (vp_in v5 40 ∧ (∀ x16 : Int32, x16 = v4 &&& (μ.1 1005 v5.toNatClampNeg) → P78 v1 v2 v3 x16 (v5 + 1) μ)))
def w_X0_common_78 (S : XS) (v1 : Int32) (v2 : Int32) (v3 : Int32) (v4 : Int32) (v5 : Int32) (μ : WS) (Q : Int32 → WS → Prop) : Prop := ∀ P78 : Int32 → Int32 → Int32 → Int32 → Int32 → WS → Prop, (∀ (v1 : Int32) (v2 : Int32) (v3 : Int32) (v4 : Int32) (v5 : Int32) (μ : WS), w_X0_common_78b S  P78 v1 v2 v3 v4 v5 μ Q → P78 v1 v2 v3 v4 v5 μ) → P78 v1 v2 v3 v4 v5 μ
def w_X0_common_31b (S : XS) (P31 : Int32 → Int32 → Int32 → Int32 → Int32 → WS → Prop) (v1 : Int32) (v2 : Int32) (v3 : Int32) (v4 : Int32) (v5 : Int32) (μ : WS) (Q : Int32 → WS → Prop) : Prop := ((μ.1 1000 7 ≤ v5) → w_X0_common_78 S v1 v2 v3 v4 0 μ Q) ∧ ((¬ μ.1 1000 7 ≤ v5) → (vp_in v5 24 ∧ (∀ x11 : Int32, x11 = v2 &&& (μ.1 1001 v5.toNatClampNeg) → (vp_in v5 24 ∧ (∀ x12 : Int32, x12 = v3 ||| (μ.1 1001 v5.toNatClampNeg) → P31 v1 x11 x12 v4 (v5 + 1) μ)))))
def w_X0_common_31 (S : XS) (v1 : Int32) (v2 : Int32) (v3 : Int32) (v4 : Int32) (v5 : Int32) (μ : WS) (Q : Int32 → WS → Prop) : Prop := ∀ P31 : Int32 → Int32 → Int32 → Int32 → Int32 → WS → Prop, (∀ (v1 : Int32) (v2 : Int32) (v3 : Int32) (v4 : Int32) (v5 : Int32) (μ : WS), w_X0_common_31b S  P31 v1 v2 v3 v4 v5 μ Q → P31 v1 v2 v3 v4 v5 μ) → P31 v1 v2 v3 v4 v5 μ
def w_X0_common (S : XS) (v1 : Int32) (μ : WS) (Q : Int32 → WS → Prop) : Prop := (w_X0_isIn S v1 0 2 μ (fun r2 μ1 => ((¬ r2 = 0) → (w_X0_rows S μ1 (fun r5 μ4 => (∀ x6 : Int32, x6 = r5 - 1 → (w_X0_rows S μ4 (fun r8 μ7 => (∀ x9 : Int32, x9 = r8 - 1 → w_X0_common_31 S v1 x6 0 x9 0 μ7 Q))))))) ∧ ((r2 = 0) → Q (-1) μ1)))
abbrev rm_X0_common : Room := { frames := 1, cells := 0, slots := 0, locals := 22 }
theorem mf_X0_common : MFact yX0_common 1 rm_X0_common := ⟨by decide +kernel, rfl, rfl⟩
set_option maxHeartbeats 4000000 in
theorem met_X0_common (l : Launch) (D : va_G) (ac : Nat → ClassId) (ad : Nat → Nat) (S : XS) (hLay : LayOk ad (knX S)) (v1 : Int32) (μ : WS) (Q : Int32 → WS → Prop) (h : w_X0_common S v1 μ Q) : CMet l yX0_common cX0_common 6 (some .int) rm_X0_common D ac ad (knX S) (ExX D ac ad S) [.ref (ad 0), .int v1] μ (qI Q) := by
  refine vv_met (lv := [(0, .ref (ad 0)), (1, .int v1)]) (by decide) hLay exX_ok (Nat.le_of_ble_eq_true rfl) rfl ⟨rfl, rfl⟩ (fun C hC hK hRm hLl hR hM => ?_)
  subst hLl
  have hRo : RoomOk (HPW D ac ad (knX S) (ExX D ac ad S) (vS C)) (vR C) := HPW.room
  have L78 : ∀ (v1 : Int32) (v2 : Int32) (v3 : Int32) (v4 : Int32) (v5 : Int32) (μ : WS), w_X0_common_78 S  v1 v2 v3 v4 v5 μ Q → VV C 6 (HPW D ac ad (knX S) (ExX D ac ad S) (vS C)) (vQ C (QcW D ac ad (knX S) (qI Q)) 0 0 (inLay ad (knX S))) (μ, ()) 78 [(0, .ref (ad 0)), (1, .int v1), (2, .int v2), (3, .int v3), (4, .int v4), (5, .int v5)] [] := by
    intro  v1 v2 v3 v4 v5 μ h
    refine h (fun v1 v2 v3 v4 v5 μ => VV C 6 (HPW D ac ad (knX S) (ExX D ac ad S) (vS C)) (vQ C (QcW D ac ad (knX S) (qI Q)) 0 0 (inLay ad (knX S))) (μ, ()) 78 [(0, .ref (ad 0)), (1, .int v1), (2, .int v2), (3, .int v3), (4, .int v4), (5, .int v5)] []) ?_
    clear h; intro v1 v2 v3 v4 v5 μ h
    have h78 : ∀ (v1 : Int32) (v2 : Int32) (v3 : Int32) (v4 : Int32) (v5 : Int32) (μ : WS), (fun v1 v2 v3 v4 v5 (μ : WS) => VV C 6 (HPW D ac ad (knX S) (ExX D ac ad S) (vS C)) (vQ C (QcW D ac ad (knX S) (qI Q)) 0 0 (inLay ad (knX S))) (μ, ()) 78 [(0, .ref (ad 0)), (1, .int v1), (2, .int v2), (3, .int v3), (4, .int v4), (5, .int v5)] []) v1 v2 v3 v4 v5 μ → VV C 6 (HPW D ac ad (knX S) (ExX D ac ad S) (vS C)) (vQ C (QcW D ac ad (knX S) (qI Q)) 0 0 (inLay ad (knX S))) (μ, ()) 78 [(0, .ref (ad 0)), (1, .int v1), (2, .int v2), (3, .int v3), (4, .int v4), (5, .int v5)] [] := fun _ _ _ _ _ _ h => h
    unfold w_X0_common_78b at h
    refine vv_iload hC dX0_common_78 5 rfl ?_
    refine vv_aload_n hC dX0_common_80 rfl 0 rfl ?_
    refine vv_getf hC hR hK fxX0_31_X0 0 (lx_0 S) rfl dX0_common_81 ?_
    refine vv_getf hC hR hK fxX0_180_X3 1000 (lx_1000 S) rfl dX0_common_84 ?_
    refine vv_icmp_ge (tgt := 111) hC dX0_common_87 rfl (fun c13 => ?_) (fun c13 => ?_)
    · replace h := h.1 c13
      refine vv_iload_n hC dX0_common_111 rfl 1 rfl ?_
      refine vv_if_ne (tgt := 119) hC dX0_common_112 rfl (fun c14 => ?_) (fun c14 => ?_)
      · replace h := h.1 c14
        refine vv_iload_n hC dX0_common_119 rfl 1 rfl ?_
        refine vv_iconst hC dX0_common_120 xic_1 ?_
        refine vv_icmp_ne (tgt := 128) hC dX0_common_121 rfl (fun c15 => ?_) (fun c15 => ?_)
        · replace h := h.1 c15
          refine vv_iload hC dX0_common_128 4 rfl ?_
          exact vv_iret hC hM dX0_common_130 h
        · replace h := h.2 c15
          refine vv_iload_n hC dX0_common_124 rfl 3 rfl ?_
          refine vv_goto (tgt := 130) hC dX0_common_125 rfl ?_
          exact vv_iret hC hM dX0_common_130 h
      · replace h := h.2 c14
        refine vv_iload_n hC dX0_common_115 rfl 2 rfl ?_
        refine vv_goto (tgt := 130) hC dX0_common_116 rfl ?_
        exact vv_iret hC hM dX0_common_130 h
    · replace h := h.2 c13
      refine vv_iload hC dX0_common_90 4 rfl ?_
      refine vv_aload_n hC dX0_common_92 rfl 0 rfl ?_
      refine vv_getf hC hR hK fxX0_31_X0 0 (lx_0 S) rfl dX0_common_93 ?_
      refine vv_getf hC hR hK fxX0_183_X3 1000 (lx_1000 S) rfl dX0_common_96 ?_
      refine vv_iload hC dX0_common_99 5 rfl ?_
      obtain ⟨hin226, h⟩ := h
      refine vv_iald hC hR hK 1005 (lx_1005 S) hin226 dX0_common_101 ?_
      refine vv_iand hC dX0_common_102 ?_
      refine vv_topi (fun x16 ex16 => ?_)
      replace h := h x16 ex16
      refine vv_istore (lv' := [(4, .int x16), (0, .ref (ad 0)), (1, .int v1), (2, .int v2), (3, .int v3), (5, .int v5)]) hC dX0_common_103 (by decide) rfl ?_
      refine vv_iinc (pl := 5) (v := v5 + 1) (lv' := [(5, .int (v5 + 1)), (4, .int x16), (0, .ref (ad 0)), (1, .int v1), (2, .int v2), (3, .int v3)]) hC dX0_common_105 rfl rfl (by decide) rfl ?_
      refine vv_goto (tgt := 78) hC dX0_common_108 rfl ?_
      refine vv_lv [2, 3, 4, 5, 1, 0] rfl ?_
      exact h78 _ _ _ _ _ _ h
  have L31 : ∀ (v1 : Int32) (v2 : Int32) (v3 : Int32) (v4 : Int32) (v5 : Int32) (μ : WS), w_X0_common_31 S  v1 v2 v3 v4 v5 μ Q → VV C 6 (HPW D ac ad (knX S) (ExX D ac ad S) (vS C)) (vQ C (QcW D ac ad (knX S) (qI Q)) 0 0 (inLay ad (knX S))) (μ, ()) 31 [(0, .ref (ad 0)), (1, .int v1), (2, .int v2), (3, .int v3), (4, .int v4), (5, .int v5)] [] := by
    intro  v1 v2 v3 v4 v5 μ h
    refine h (fun v1 v2 v3 v4 v5 μ => VV C 6 (HPW D ac ad (knX S) (ExX D ac ad S) (vS C)) (vQ C (QcW D ac ad (knX S) (qI Q)) 0 0 (inLay ad (knX S))) (μ, ()) 31 [(0, .ref (ad 0)), (1, .int v1), (2, .int v2), (3, .int v3), (4, .int v4), (5, .int v5)] []) ?_
    clear h; intro v1 v2 v3 v4 v5 μ h
    have h31 : ∀ (v1 : Int32) (v2 : Int32) (v3 : Int32) (v4 : Int32) (v5 : Int32) (μ : WS), (fun v1 v2 v3 v4 v5 (μ : WS) => VV C 6 (HPW D ac ad (knX S) (ExX D ac ad S) (vS C)) (vQ C (QcW D ac ad (knX S) (qI Q)) 0 0 (inLay ad (knX S))) (μ, ()) 31 [(0, .ref (ad 0)), (1, .int v1), (2, .int v2), (3, .int v3), (4, .int v4), (5, .int v5)] []) v1 v2 v3 v4 v5 μ → VV C 6 (HPW D ac ad (knX S) (ExX D ac ad S) (vS C)) (vQ C (QcW D ac ad (knX S) (qI Q)) 0 0 (inLay ad (knX S))) (μ, ()) 31 [(0, .ref (ad 0)), (1, .int v1), (2, .int v2), (3, .int v3), (4, .int v4), (5, .int v5)] [] := fun _ _ _ _ _ _ h => h
    unfold w_X0_common_31b at h
    refine vv_iload hC dX0_common_31 5 rfl ?_
    refine vv_aload_n hC dX0_common_33 rfl 0 rfl ?_
    refine vv_getf hC hR hK fxX0_31_X0 0 (lx_0 S) rfl dX0_common_34 ?_
    refine vv_getf hC hR hK fxX0_154_X3 1000 (lx_1000 S) rfl dX0_common_37 ?_
    refine vv_icmp_ge (tgt := 75) hC dX0_common_40 rfl (fun c10 => ?_) (fun c10 => ?_)
    · replace h := h.1 c10
      refine vv_iconst hC dX0_common_75 xic_0 ?_
      refine vv_istore (lv' := [(5, .int 0), (0, .ref (ad 0)), (1, .int v1), (2, .int v2), (3, .int v3), (4, .int v4)]) hC dX0_common_76 (by decide) rfl ?_
      refine vv_lv [1, 2, 3, 4, 5, 0] rfl ?_
      exact L78  _ _ _ _ _ _ h
    · replace h := h.2 c10
      refine vv_iload_n hC dX0_common_43 rfl 2 rfl ?_
      refine vv_aload_n hC dX0_common_44 rfl 0 rfl ?_
      refine vv_getf hC hR hK fxX0_31_X0 0 (lx_0 S) rfl dX0_common_45 ?_
      refine vv_getf hC hR hK fxX0_164_X3 1000 (lx_1000 S) rfl dX0_common_48 ?_
      refine vv_iload hC dX0_common_51 5 rfl ?_
      obtain ⟨hin224, h⟩ := h
      refine vv_iald hC hR hK 1001 (lx_1001 S) hin224 dX0_common_53 ?_
      refine vv_iand hC dX0_common_54 ?_
      refine vv_topi (fun x11 ex11 => ?_)
      replace h := h x11 ex11
      refine vv_istore_n (lv' := [(2, .int x11), (0, .ref (ad 0)), (1, .int v1), (3, .int v3), (4, .int v4), (5, .int v5)]) hC dX0_common_55 rfl (by decide) rfl ?_
      refine vv_iload_n hC dX0_common_56 rfl 3 rfl ?_
      refine vv_aload_n hC dX0_common_57 rfl 1 rfl ?_
      refine vv_getf hC hR hK fxX0_31_X0 0 (lx_0 S) rfl dX0_common_58 ?_
      refine vv_getf hC hR hK fxX0_164_X3 1000 (lx_1000 S) rfl dX0_common_61 ?_
      refine vv_iload hC dX0_common_64 5 rfl ?_
      obtain ⟨hin225, h⟩ := h
      refine vv_iald hC hR hK 1001 (lx_1001 S) hin225 dX0_common_66 ?_
      refine vv_ior hC dX0_common_67 ?_
      refine vv_topi (fun x12 ex12 => ?_)
      replace h := h x12 ex12
      refine vv_istore_n (lv' := [(3, .int x12), (2, .int x11), (0, .ref (ad 0)), (1, .int v1), (4, .int v4), (5, .int v5)]) hC dX0_common_68 rfl (by decide) rfl ?_
      refine vv_iinc (pl := 5) (v := v5 + 1) (lv' := [(5, .int (v5 + 1)), (3, .int x12), (2, .int x11), (0, .ref (ad 0)), (1, .int v1), (4, .int v4)]) hC dX0_common_69 rfl rfl (by decide) rfl ?_
      refine vv_goto (tgt := 31) hC dX0_common_72 rfl ?_
      refine vv_lv [3, 4, 2, 1, 5, 0] rfl ?_
      exact h31 _ _ _ _ _ _ h
  unfold w_X0_common at h
  refine vv_iload_n hC dX0_common_0 rfl 1 rfl ?_
  refine vv_iconst hC dX0_common_1 xic_0 ?_
  refine vv_iconst hC dX0_common_2 xic_2 ?_
  refine vv_callSi hC hR hK hRo hRm [.int v1, .int 0, .int 2] [] (met_X0_isIn (vL C) D ac ad S hLay v1 0 2 μ _ h) gxX0_150 mf_X0_isIn rfl rfl rfl dX0_common_3 (fun r2 μ1 h => ?_)
  refine vv_if_ne (tgt := 11) hC dX0_common_6 rfl (fun c3 => ?_) (fun c3 => ?_)
  · replace h := h.1 c3
    refine vv_aload_n hC dX0_common_11 rfl 0 rfl ?_
    refine vv_callVi hC hR hK hRo hRm [] [] (met_X0_rows (vL C) D ac ad S hLay  μ1 _ h) gxX0_157 mf_X0_rows rfl (lx_0 S) rfl rfl rfl rfl dX0_common_12 (fun r5 μ4 h => ?_)
    refine vv_iconst hC dX0_common_15 xic_1 ?_
    refine vv_isub hC dX0_common_16 ?_
    refine vv_topi (fun x6 ex6 => ?_)
    replace h := h x6 ex6
    refine vv_istore_n (lv' := [(2, .int x6), (0, .ref (ad 0)), (1, .int v1)]) hC dX0_common_17 rfl (by decide) rfl ?_
    refine vv_iconst hC dX0_common_18 xic_0 ?_
    refine vv_istore_n (lv' := [(3, .int 0), (2, .int x6), (0, .ref (ad 0)), (1, .int v1)]) hC dX0_common_19 rfl (by decide) rfl ?_
    refine vv_aload_n hC dX0_common_20 rfl 2 rfl ?_
    refine vv_callVi hC hR hK hRo hRm [] [] (met_X0_rows (vL C) D ac ad S hLay  μ4 _ h) gxX0_157 mf_X0_rows rfl (lx_0 S) rfl rfl rfl rfl dX0_common_21 (fun r8 μ7 h => ?_)
    refine vv_iconst hC dX0_common_24 xic_1 ?_
    refine vv_isub hC dX0_common_25 ?_
    refine vv_topi (fun x9 ex9 => ?_)
    replace h := h x9 ex9
    refine vv_istore (lv' := [(4, .int x9), (3, .int 0), (2, .int x6), (0, .ref (ad 0)), (1, .int v1)]) hC dX0_common_26 (by decide) rfl ?_
    refine vv_iconst hC dX0_common_28 xic_0 ?_
    refine vv_istore (lv' := [(5, .int 0), (4, .int x9), (3, .int 0), (2, .int x6), (0, .ref (ad 0)), (1, .int v1)]) hC dX0_common_29 (by decide) rfl ?_
    refine vv_lv [4, 5, 3, 2, 1, 0] rfl ?_
    exact L31  _ _ _ _ _ _ h
  · replace h := h.2 c3
    refine vv_iconst hC dX0_common_9 xic_m1 ?_
    exact vv_iret hC hM dX0_common_10 h
def w_X0_alike_74 (S : XS) (P15 : Int32 → Int32 → Int32 → Int32 → WS → Prop) (s0 : Int32) (s1 : Int32) (v1 : Int32) (v2 : Int32) (v4 : Int32) (μ : WS) (Q : Int32 → WS → Prop) : Prop := (∀ x9 : Int32, x9 = s1 ||| s0 → P15 v1 v2 x9 (v4 + 1) μ)
def w_X0_alike_62 (S : XS) (P15 : Int32 → Int32 → Int32 → Int32 → WS → Prop) (s0 : Int32) (s1 : Int32) (v1 : Int32) (v2 : Int32) (v4 : Int32) (μ : WS) (Q : Int32 → WS → Prop) : Prop := ((¬ s0 = v1) → w_X0_alike_74 S P15 0 s1 v1 v2 v4 μ Q) ∧ ((s0 = v1) → w_X0_alike_74 S P15 (1 <<< (v4 &&& 31)) s1 v1 v2 v4 μ Q)
def w_X0_alike_15b (S : XS) (P15 : Int32 → Int32 → Int32 → Int32 → WS → Prop) (v1 : Int32) (v2 : Int32) (v3 : Int32) (v4 : Int32) (μ : WS) (Q : Int32 → WS → Prop) : Prop := ((μ.1 1000 7 ≤ v4) → Q v3 μ) ∧ ((¬ μ.1 1000 7 ≤ v4) → ((v2 = 0) → (vp_in v4 24 ∧ w_X0_alike_62 S P15 (μ.1 1001 v4.toNatClampNeg) v3 v1 v2 v4 μ Q)) ∧ ((¬ v2 = 0) → (vp_in v4 24 ∧ (w_X1_turn S (μ.1 1001 v4.toNatClampNeg) μ (fun r7 μ6 => w_X0_alike_62 S P15 r7 v3 v1 v2 v4 μ6 Q)))))
def w_X0_alike_15 (S : XS) (v1 : Int32) (v2 : Int32) (v3 : Int32) (v4 : Int32) (μ : WS) (Q : Int32 → WS → Prop) : Prop := ∀ P15 : Int32 → Int32 → Int32 → Int32 → WS → Prop, (∀ (v1 : Int32) (v2 : Int32) (v3 : Int32) (v4 : Int32) (μ : WS), w_X0_alike_15b S  P15 v1 v2 v3 v4 μ Q → P15 v1 v2 v3 v4 μ) → P15 v1 v2 v3 v4 μ
def w_X0_alike (S : XS) (v1 : Int32) (v2 : Int32) (μ : WS) (Q : Int32 → WS → Prop) : Prop := (w_X0_isRow S v1 μ (fun r2 μ1 => ((¬ r2 = 0) → w_X0_alike_15 S v1 v2 0 0 μ1 Q) ∧ ((r2 = 0) → Q (-1) μ1)))
abbrev rm_X0_alike : Room := { frames := 2, cells := 0, slots := 0, locals := 43 }
theorem mf_X0_alike : MFact yX0_alike 2 rm_X0_alike := ⟨by decide +kernel, rfl, rfl⟩
set_option maxHeartbeats 4000000 in
theorem met_X0_alike (l : Launch) (D : va_G) (ac : Nat → ClassId) (ad : Nat → Nat) (S : XS) (hLay : LayOk ad (knX S)) (v1 : Int32) (v2 : Int32) (μ : WS) (Q : Int32 → WS → Prop) (h : w_X0_alike S v1 v2 μ Q) : CMet l yX0_alike cX0_alike 5 (some .int) rm_X0_alike D ac ad (knX S) (ExX D ac ad S) [.ref (ad 0), .int v1, .int v2] μ (qI Q) := by
  refine vv_met (lv := [(0, .ref (ad 0)), (1, .int v1), (2, .int v2)]) (by decide) hLay exX_ok (Nat.le_of_ble_eq_true rfl) rfl ⟨rfl, rfl⟩ (fun C hC hK hRm hLl hR hM => ?_)
  subst hLl
  have hRo : RoomOk (HPW D ac ad (knX S) (ExX D ac ad S) (vS C)) (vR C) := HPW.room
  have L74 : ∀ (P15 : Int32 → Int32 → Int32 → Int32 → WS → Prop) (h15 : ∀ (v1 : Int32) (v2 : Int32) (v3 : Int32) (v4 : Int32) (μ : WS), P15 v1 v2 v3 v4 μ → VV C 5 (HPW D ac ad (knX S) (ExX D ac ad S) (vS C)) (vQ C (QcW D ac ad (knX S) (qI Q)) 0 0 (inLay ad (knX S))) (μ, ()) 15 [(0, .ref (ad 0)), (1, .int v1), (2, .int v2), (3, .int v3), (4, .int v4)] []) (s0 : Int32) (s1 : Int32) (v1 : Int32) (v2 : Int32) (v4 : Int32) (μ : WS), w_X0_alike_74 S P15 s0 s1 v1 v2 v4 μ Q → VV C 5 (HPW D ac ad (knX S) (ExX D ac ad S) (vS C)) (vQ C (QcW D ac ad (knX S) (qI Q)) 0 0 (inLay ad (knX S))) (μ, ()) 74 [(0, .ref (ad 0)), (1, .int v1), (2, .int v2), (4, .int v4)] [.int s0, .int s1] := by
    intro P15 h15 s0 s1 v1 v2 v4 μ h
    unfold w_X0_alike_74 at h
    refine vv_ior hC dX0_alike_74 ?_
    refine vv_topi (fun x9 ex9 => ?_)
    replace h := h x9 ex9
    refine vv_istore_n (lv' := [(3, .int x9), (0, .ref (ad 0)), (1, .int v1), (2, .int v2), (4, .int v4)]) hC dX0_alike_75 rfl (by decide) rfl ?_
    refine vv_iinc (pl := 4) (v := v4 + 1) (lv' := [(4, .int (v4 + 1)), (3, .int x9), (0, .ref (ad 0)), (1, .int v1), (2, .int v2)]) hC dX0_alike_76 rfl rfl (by decide) rfl ?_
    refine vv_goto (tgt := 15) hC dX0_alike_79 rfl ?_
    refine vv_lv [2, 3, 4, 1, 0] rfl ?_
    exact h15 _ _ _ _ _ h
  have L62 : ∀ (P15 : Int32 → Int32 → Int32 → Int32 → WS → Prop) (h15 : ∀ (v1 : Int32) (v2 : Int32) (v3 : Int32) (v4 : Int32) (μ : WS), P15 v1 v2 v3 v4 μ → VV C 5 (HPW D ac ad (knX S) (ExX D ac ad S) (vS C)) (vQ C (QcW D ac ad (knX S) (qI Q)) 0 0 (inLay ad (knX S))) (μ, ()) 15 [(0, .ref (ad 0)), (1, .int v1), (2, .int v2), (3, .int v3), (4, .int v4)] []) (s0 : Int32) (s1 : Int32) (v1 : Int32) (v2 : Int32) (v4 : Int32) (μ : WS), w_X0_alike_62 S P15 s0 s1 v1 v2 v4 μ Q → VV C 5 (HPW D ac ad (knX S) (ExX D ac ad S) (vS C)) (vQ C (QcW D ac ad (knX S) (qI Q)) 0 0 (inLay ad (knX S))) (μ, ()) 62 [(0, .ref (ad 0)), (1, .int v1), (2, .int v2), (4, .int v4)] [.int s0, .int s1] := by
    intro P15 h15 s0 s1 v1 v2 v4 μ h
    unfold w_X0_alike_62 at h
    refine vv_iload_n hC dX0_alike_62 rfl 1 rfl ?_
    refine vv_icmp_ne (tgt := 73) hC dX0_alike_63 rfl (fun c8 => ?_) (fun c8 => ?_)
    · replace h := h.1 c8
      refine vv_iconst hC dX0_alike_73 xic_0 ?_
      exact L74 _ h15 _ _ _ _ _ _ h
    · replace h := h.2 c8
      refine vv_iconst hC dX0_alike_66 xic_1 ?_
      refine vv_iload hC dX0_alike_67 3 rfl ?_
      refine vv_ishl hC dX0_alike_69 ?_
      refine vv_goto (tgt := 74) hC dX0_alike_70 rfl ?_
      exact L74 _ h15 _ _ _ _ _ _ h
  have L15 : ∀ (v1 : Int32) (v2 : Int32) (v3 : Int32) (v4 : Int32) (μ : WS), w_X0_alike_15 S  v1 v2 v3 v4 μ Q → VV C 5 (HPW D ac ad (knX S) (ExX D ac ad S) (vS C)) (vQ C (QcW D ac ad (knX S) (qI Q)) 0 0 (inLay ad (knX S))) (μ, ()) 15 [(0, .ref (ad 0)), (1, .int v1), (2, .int v2), (3, .int v3), (4, .int v4)] [] := by
    intro  v1 v2 v3 v4 μ h
    refine h (fun v1 v2 v3 v4 μ => VV C 5 (HPW D ac ad (knX S) (ExX D ac ad S) (vS C)) (vQ C (QcW D ac ad (knX S) (qI Q)) 0 0 (inLay ad (knX S))) (μ, ()) 15 [(0, .ref (ad 0)), (1, .int v1), (2, .int v2), (3, .int v3), (4, .int v4)] []) ?_
    clear h; intro v1 v2 v3 v4 μ h
    have h15 : ∀ (v1 : Int32) (v2 : Int32) (v3 : Int32) (v4 : Int32) (μ : WS), (fun v1 v2 v3 v4 (μ : WS) => VV C 5 (HPW D ac ad (knX S) (ExX D ac ad S) (vS C)) (vQ C (QcW D ac ad (knX S) (qI Q)) 0 0 (inLay ad (knX S))) (μ, ()) 15 [(0, .ref (ad 0)), (1, .int v1), (2, .int v2), (3, .int v3), (4, .int v4)] []) v1 v2 v3 v4 μ → VV C 5 (HPW D ac ad (knX S) (ExX D ac ad S) (vS C)) (vQ C (QcW D ac ad (knX S) (qI Q)) 0 0 (inLay ad (knX S))) (μ, ()) 15 [(0, .ref (ad 0)), (1, .int v1), (2, .int v2), (3, .int v3), (4, .int v4)] [] := fun _ _ _ _ _ h => h
    unfold w_X0_alike_15b at h
    refine vv_iload hC dX0_alike_15 4 rfl ?_
    refine vv_aload_n hC dX0_alike_17 rfl 0 rfl ?_
    refine vv_getf hC hR hK fxX0_31_X0 0 (lx_0 S) rfl dX0_alike_18 ?_
    refine vv_getf hC hR hK fxX0_154_X3 1000 (lx_1000 S) rfl dX0_alike_21 ?_
    refine vv_icmp_ge (tgt := 82) hC dX0_alike_24 rfl (fun c4 => ?_) (fun c4 => ?_)
    · replace h := h.1 c4
      refine vv_iload_n hC dX0_alike_82 rfl 3 rfl ?_
      exact vv_iret hC hM dX0_alike_83 h
    · replace h := h.2 c4
      refine vv_iload_n hC dX0_alike_27 rfl 3 rfl ?_
      refine vv_iload_n hC dX0_alike_28 rfl 2 rfl ?_
      refine vv_if_eq (tgt := 52) hC dX0_alike_29 rfl (fun c5 => ?_) (fun c5 => ?_)
      · replace h := h.1 c5
        refine vv_aload_n hC dX0_alike_52 rfl 0 rfl ?_
        refine vv_getf hC hR hK fxX0_31_X0 0 (lx_0 S) rfl dX0_alike_53 ?_
        refine vv_getf hC hR hK fxX0_164_X3 1000 (lx_1000 S) rfl dX0_alike_56 ?_
        refine vv_iload hC dX0_alike_59 4 rfl ?_
        obtain ⟨hin227, h⟩ := h
        refine vv_iald hC hR hK 1001 (lx_1001 S) hin227 dX0_alike_61 ?_
        refine vv_lv [0, 1, 2, 4] rfl ?_
        exact L62 _ h15 _ _ _ _ _ _ h
      · replace h := h.2 c5
        refine vv_aload_n hC dX0_alike_32 rfl 0 rfl ?_
        refine vv_getf hC hR hK fxX0_20_X0 0 (lx_0 S) rfl dX0_alike_33 ?_
        refine vv_aload_n hC dX0_alike_36 rfl 0 rfl ?_
        refine vv_getf hC hR hK fxX0_31_X0 0 (lx_0 S) rfl dX0_alike_37 ?_
        refine vv_getf hC hR hK fxX0_164_X3 1000 (lx_1000 S) rfl dX0_alike_40 ?_
        refine vv_iload hC dX0_alike_43 4 rfl ?_
        obtain ⟨hin228, h⟩ := h
        refine vv_iald hC hR hK 1001 (lx_1001 S) hin228 dX0_alike_45 ?_
        refine vv_callVi hC hR hK hRo hRm [.int (μ.1 1001 v4.toNatClampNeg)] [.int v3] (met_X1_turn (vL C) D ac ad S hLay (μ.1 1001 v4.toNatClampNeg) μ _ h) gxX0_195 mf_X1_turn rfl (lx_104 S) rfl rfl rfl rfl dX0_alike_46 (fun r7 μ6 h => ?_)
        refine vv_goto (tgt := 62) hC dX0_alike_49 rfl ?_
        refine vv_lv [0, 1, 2, 4] rfl ?_
        exact L62 _ h15 _ _ _ _ _ _ h
  unfold w_X0_alike at h
  refine vv_aload_n hC dX0_alike_0 rfl 0 rfl ?_
  refine vv_iload_n hC dX0_alike_1 rfl 1 rfl ?_
  refine vv_callVi hC hR hK hRo hRm [.int v1] [] (met_X0_isRow (vL C) D ac ad S hLay v1 μ _ h) gxX0_192 mf_X0_isRow rfl (lx_0 S) rfl rfl rfl rfl dX0_alike_2 (fun r2 μ1 h => ?_)
  refine vv_if_ne (tgt := 10) hC dX0_alike_5 rfl (fun c3 => ?_) (fun c3 => ?_)
  · replace h := h.1 c3
    refine vv_iconst hC dX0_alike_10 xic_0 ?_
    refine vv_istore_n (lv' := [(3, .int 0), (0, .ref (ad 0)), (1, .int v1), (2, .int v2)]) hC dX0_alike_11 rfl (by decide) rfl ?_
    refine vv_iconst hC dX0_alike_12 xic_0 ?_
    refine vv_istore (lv' := [(4, .int 0), (3, .int 0), (0, .ref (ad 0)), (1, .int v1), (2, .int v2)]) hC dX0_alike_13 (by decide) rfl ?_
    refine vv_lv [2, 3, 4, 1, 0] rfl ?_
    exact L15  _ _ _ _ _ h
  · replace h := h.2 c3
    refine vv_iconst hC dX0_alike_8 xic_m1 ?_
    exact vv_iret hC hM dX0_alike_9 h
def w_X0_tells_91 (S : XS) (P4 : Int32 → Int32 → Int32 → WS → Prop) (v1 : Int32) (v2 : Int32) (v3 : Int32) (μ : WS) (Q : Int32 → WS → Prop) : Prop := P4 v1 v2 (v3 + 1) μ
def w_X0_tells_84 (S : XS) (P4 : Int32 → Int32 → Int32 → WS → Prop) (P22 : Int32 → Int32 → Int32 → Int32 → WS → Prop) (s0 : Int32) (v1 : Int32) (v3 : Int32) (v4 : Int32) (μ : WS) (Q : Int32 → WS → Prop) : Prop := P22 v1 s0 v3 (v4 + 1) μ
def w_X0_tells_79 (S : XS) (P4 : Int32 → Int32 → Int32 → WS → Prop) (P22 : Int32 → Int32 → Int32 → Int32 → WS → Prop) (v1 : Int32) (v3 : Int32) (v4 : Int32) (μ : WS) (Q : Int32 → WS → Prop) : Prop := w_X0_tells_84 S P4 P22 1 v1 v3 v4 μ Q
def w_X0_tells_22b (S : XS) (P4 : Int32 → Int32 → Int32 → WS → Prop) (P22 : Int32 → Int32 → Int32 → Int32 → WS → Prop) (v1 : Int32) (v2 : Int32) (v3 : Int32) (v4 : Int32) (μ : WS) (Q : Int32 → WS → Prop) : Prop := ((v3 ≤ v4) → w_X0_tells_91 S P4 v1 v2 v3 μ Q) ∧ ((¬ v3 ≤ v4) → ((v2 = 0) → w_X0_tells_91 S P4 v1 v2 v3 μ Q) ∧ ((¬ v2 = 0) → (vp_in v3 24 ∧ (vp_in v4 24 ∧ ((μ.1 1001 v3.toNatClampNeg = μ.1 1001 v4.toNatClampNeg) → w_X0_tells_79 S P4 P22 v1 v3 v4 μ Q) ∧ ((¬ μ.1 1001 v3.toNatClampNeg = μ.1 1001 v4.toNatClampNeg) → (vp_in v3 24 ∧ (vp_in v4 24 ∧ ((((μ.1 1001 v3.toNatClampNeg) ^^^ (μ.1 1001 v4.toNatClampNeg)) &&& v1 = 0) → w_X0_tells_84 S P4 P22 0 v1 v3 v4 μ Q) ∧ ((¬ ((μ.1 1001 v3.toNatClampNeg) ^^^ (μ.1 1001 v4.toNatClampNeg)) &&& v1 = 0) → w_X0_tells_79 S P4 P22 v1 v3 v4 μ Q))))))))
def w_X0_tells_22 (S : XS) (P4 : Int32 → Int32 → Int32 → WS → Prop) (v1 : Int32) (v2 : Int32) (v3 : Int32) (v4 : Int32) (μ : WS) (Q : Int32 → WS → Prop) : Prop := ∀ P22 : Int32 → Int32 → Int32 → Int32 → WS → Prop, (∀ (v1 : Int32) (v2 : Int32) (v3 : Int32) (v4 : Int32) (μ : WS), w_X0_tells_22b S P4 P22 v1 v2 v3 v4 μ Q → P22 v1 v2 v3 v4 μ) → P22 v1 v2 v3 v4 μ
def w_X0_tells_4b (S : XS) (P4 : Int32 → Int32 → Int32 → WS → Prop) (v1 : Int32) (v2 : Int32) (v3 : Int32) (μ : WS) (Q : Int32 → WS → Prop) : Prop := ((μ.1 1000 7 ≤ v3) → isB v2 ∧ Q v2 μ) ∧ ((¬ μ.1 1000 7 ≤ v3) → ((v2 = 0) → isB v2 ∧ Q v2 μ) ∧ ((¬ v2 = 0) → w_X0_tells_22 S P4 v1 v2 v3 0 μ Q))
def w_X0_tells_4 (S : XS) (v1 : Int32) (v2 : Int32) (v3 : Int32) (μ : WS) (Q : Int32 → WS → Prop) : Prop := ∀ P4 : Int32 → Int32 → Int32 → WS → Prop, (∀ (v1 : Int32) (v2 : Int32) (v3 : Int32) (μ : WS), w_X0_tells_4b S  P4 v1 v2 v3 μ Q → P4 v1 v2 v3 μ) → P4 v1 v2 v3 μ
def w_X0_tells (S : XS) (v1 : Int32) (μ : WS) (Q : Int32 → WS → Prop) : Prop := w_X0_tells_4 S v1 1 0 μ Q
abbrev rm_X0_tells : Room := { frames := 0, cells := 0, slots := 0, locals := 0 }
theorem mf_X0_tells : MFact yX0_tells 1 rm_X0_tells := ⟨by decide +kernel, rfl, rfl⟩
set_option maxHeartbeats 4000000 in
theorem met_X0_tells (l : Launch) (D : va_G) (ac : Nat → ClassId) (ad : Nat → Nat) (S : XS) (hLay : LayOk ad (knX S)) (v1 : Int32) (μ : WS) (Q : Int32 → WS → Prop) (h : w_X0_tells S v1 μ Q) : CMet l yX0_tells cX0_tells 5 (some .boolean) rm_X0_tells D ac ad (knX S) (ExX D ac ad S) [.ref (ad 0), .int v1] μ (qI Q) := by
  refine vv_met (lv := [(0, .ref (ad 0)), (1, .int v1)]) (by decide) hLay exX_ok (Nat.le_of_ble_eq_true rfl) rfl ⟨rfl, rfl⟩ (fun C hC hK hRm hLl hR hM => ?_)
  subst hLl
  have hRo : RoomOk (HPW D ac ad (knX S) (ExX D ac ad S) (vS C)) (vR C) := HPW.room
  have L91 : ∀ (P4 : Int32 → Int32 → Int32 → WS → Prop) (h4 : ∀ (v1 : Int32) (v2 : Int32) (v3 : Int32) (μ : WS), P4 v1 v2 v3 μ → VV C 5 (HPW D ac ad (knX S) (ExX D ac ad S) (vS C)) (vQ C (QcW D ac ad (knX S) (qI Q)) 0 0 (inLay ad (knX S))) (μ, ()) 4 [(0, .ref (ad 0)), (1, .int v1), (2, .int v2), (3, .int v3)] []) (v1 : Int32) (v2 : Int32) (v3 : Int32) (μ : WS), w_X0_tells_91 S P4 v1 v2 v3 μ Q → VV C 5 (HPW D ac ad (knX S) (ExX D ac ad S) (vS C)) (vQ C (QcW D ac ad (knX S) (qI Q)) 0 0 (inLay ad (knX S))) (μ, ()) 91 [(0, .ref (ad 0)), (1, .int v1), (2, .int v2), (3, .int v3)] [] := by
    intro P4 h4 v1 v2 v3 μ h
    unfold w_X0_tells_91 at h
    refine vv_iinc (pl := 3) (v := v3 + 1) (lv' := [(3, .int (v3 + 1)), (0, .ref (ad 0)), (1, .int v1), (2, .int v2)]) hC dX0_tells_91 rfl rfl (by decide) rfl ?_
    refine vv_goto (tgt := 4) hC dX0_tells_94 rfl ?_
    refine vv_lv [1, 2, 3, 0] rfl ?_
    exact h4 _ _ _ _ h
  have L84 : ∀ (P4 : Int32 → Int32 → Int32 → WS → Prop) (h4 : ∀ (v1 : Int32) (v2 : Int32) (v3 : Int32) (μ : WS), P4 v1 v2 v3 μ → VV C 5 (HPW D ac ad (knX S) (ExX D ac ad S) (vS C)) (vQ C (QcW D ac ad (knX S) (qI Q)) 0 0 (inLay ad (knX S))) (μ, ()) 4 [(0, .ref (ad 0)), (1, .int v1), (2, .int v2), (3, .int v3)] []) (P22 : Int32 → Int32 → Int32 → Int32 → WS → Prop) (h22 : ∀ (v1 : Int32) (v2 : Int32) (v3 : Int32) (v4 : Int32) (μ : WS), P22 v1 v2 v3 v4 μ → VV C 5 (HPW D ac ad (knX S) (ExX D ac ad S) (vS C)) (vQ C (QcW D ac ad (knX S) (qI Q)) 0 0 (inLay ad (knX S))) (μ, ()) 22 [(0, .ref (ad 0)), (1, .int v1), (2, .int v2), (3, .int v3), (4, .int v4)] []) (s0 : Int32) (v1 : Int32) (v3 : Int32) (v4 : Int32) (μ : WS), w_X0_tells_84 S P4 P22 s0 v1 v3 v4 μ Q → VV C 5 (HPW D ac ad (knX S) (ExX D ac ad S) (vS C)) (vQ C (QcW D ac ad (knX S) (qI Q)) 0 0 (inLay ad (knX S))) (μ, ()) 84 [(0, .ref (ad 0)), (1, .int v1), (3, .int v3), (4, .int v4)] [.int s0] := by
    intro P4 h4 P22 h22 s0 v1 v3 v4 μ h
    unfold w_X0_tells_84 at h
    refine vv_istore_n (lv' := [(2, .int s0), (0, .ref (ad 0)), (1, .int v1), (3, .int v3), (4, .int v4)]) hC dX0_tells_84 rfl (by decide) rfl ?_
    refine vv_iinc (pl := 4) (v := v4 + 1) (lv' := [(4, .int (v4 + 1)), (2, .int s0), (0, .ref (ad 0)), (1, .int v1), (3, .int v3)]) hC dX0_tells_85 rfl rfl (by decide) rfl ?_
    refine vv_goto (tgt := 22) hC dX0_tells_88 rfl ?_
    refine vv_lv [2, 3, 1, 4, 0] rfl ?_
    exact h22 _ _ _ _ _ h
  have L79 : ∀ (P4 : Int32 → Int32 → Int32 → WS → Prop) (h4 : ∀ (v1 : Int32) (v2 : Int32) (v3 : Int32) (μ : WS), P4 v1 v2 v3 μ → VV C 5 (HPW D ac ad (knX S) (ExX D ac ad S) (vS C)) (vQ C (QcW D ac ad (knX S) (qI Q)) 0 0 (inLay ad (knX S))) (μ, ()) 4 [(0, .ref (ad 0)), (1, .int v1), (2, .int v2), (3, .int v3)] []) (P22 : Int32 → Int32 → Int32 → Int32 → WS → Prop) (h22 : ∀ (v1 : Int32) (v2 : Int32) (v3 : Int32) (v4 : Int32) (μ : WS), P22 v1 v2 v3 v4 μ → VV C 5 (HPW D ac ad (knX S) (ExX D ac ad S) (vS C)) (vQ C (QcW D ac ad (knX S) (qI Q)) 0 0 (inLay ad (knX S))) (μ, ()) 22 [(0, .ref (ad 0)), (1, .int v1), (2, .int v2), (3, .int v3), (4, .int v4)] []) (v1 : Int32) (v3 : Int32) (v4 : Int32) (μ : WS), w_X0_tells_79 S P4 P22 v1 v3 v4 μ Q → VV C 5 (HPW D ac ad (knX S) (ExX D ac ad S) (vS C)) (vQ C (QcW D ac ad (knX S) (qI Q)) 0 0 (inLay ad (knX S))) (μ, ()) 79 [(0, .ref (ad 0)), (1, .int v1), (3, .int v3), (4, .int v4)] [] := by
    intro P4 h4 P22 h22 v1 v3 v4 μ h
    unfold w_X0_tells_79 at h
    refine vv_iconst hC dX0_tells_79 xic_1 ?_
    refine vv_goto (tgt := 84) hC dX0_tells_80 rfl ?_
    exact L84 _ h4 _ h22 _ _ _ _ _ h
  have L22 : ∀ (P4 : Int32 → Int32 → Int32 → WS → Prop) (h4 : ∀ (v1 : Int32) (v2 : Int32) (v3 : Int32) (μ : WS), P4 v1 v2 v3 μ → VV C 5 (HPW D ac ad (knX S) (ExX D ac ad S) (vS C)) (vQ C (QcW D ac ad (knX S) (qI Q)) 0 0 (inLay ad (knX S))) (μ, ()) 4 [(0, .ref (ad 0)), (1, .int v1), (2, .int v2), (3, .int v3)] []) (v1 : Int32) (v2 : Int32) (v3 : Int32) (v4 : Int32) (μ : WS), w_X0_tells_22 S P4 v1 v2 v3 v4 μ Q → VV C 5 (HPW D ac ad (knX S) (ExX D ac ad S) (vS C)) (vQ C (QcW D ac ad (knX S) (qI Q)) 0 0 (inLay ad (knX S))) (μ, ()) 22 [(0, .ref (ad 0)), (1, .int v1), (2, .int v2), (3, .int v3), (4, .int v4)] [] := by
    intro P4 h4 v1 v2 v3 v4 μ h
    refine h (fun v1 v2 v3 v4 μ => VV C 5 (HPW D ac ad (knX S) (ExX D ac ad S) (vS C)) (vQ C (QcW D ac ad (knX S) (qI Q)) 0 0 (inLay ad (knX S))) (μ, ()) 22 [(0, .ref (ad 0)), (1, .int v1), (2, .int v2), (3, .int v3), (4, .int v4)] []) ?_
    clear h; intro v1 v2 v3 v4 μ h
    have h22 : ∀ (v1 : Int32) (v2 : Int32) (v3 : Int32) (v4 : Int32) (μ : WS), (fun v1 v2 v3 v4 (μ : WS) => VV C 5 (HPW D ac ad (knX S) (ExX D ac ad S) (vS C)) (vQ C (QcW D ac ad (knX S) (qI Q)) 0 0 (inLay ad (knX S))) (μ, ()) 22 [(0, .ref (ad 0)), (1, .int v1), (2, .int v2), (3, .int v3), (4, .int v4)] []) v1 v2 v3 v4 μ → VV C 5 (HPW D ac ad (knX S) (ExX D ac ad S) (vS C)) (vQ C (QcW D ac ad (knX S) (qI Q)) 0 0 (inLay ad (knX S))) (μ, ()) 22 [(0, .ref (ad 0)), (1, .int v1), (2, .int v2), (3, .int v3), (4, .int v4)] [] := fun _ _ _ _ _ h => h
    unfold w_X0_tells_22b at h
    refine vv_iload hC dX0_tells_22 4 rfl ?_
    refine vv_iload_n hC dX0_tells_24 rfl 3 rfl ?_
    refine vv_icmp_ge (tgt := 91) hC dX0_tells_25 rfl (fun c3 => ?_) (fun c3 => ?_)
    · replace h := h.1 c3
      refine vv_lv [0, 1, 2, 3] rfl ?_
      exact L91 _ h4 _ _ _ _ h
    · replace h := h.2 c3
      refine vv_iload_n hC dX0_tells_28 rfl 2 rfl ?_
      refine vv_if_eq (tgt := 91) hC dX0_tells_29 rfl (fun c4 => ?_) (fun c4 => ?_)
      · replace h := h.1 c4
        refine vv_lv [0, 1, 2, 3] rfl ?_
        exact L91 _ h4 _ _ _ _ h
      · replace h := h.2 c4
        refine vv_aload_n hC dX0_tells_32 rfl 0 rfl ?_
        refine vv_getf hC hR hK fxX0_31_X0 0 (lx_0 S) rfl dX0_tells_33 ?_
        refine vv_getf hC hR hK fxX0_164_X3 1000 (lx_1000 S) rfl dX0_tells_36 ?_
        refine vv_iload_n hC dX0_tells_39 rfl 3 rfl ?_
        obtain ⟨hin229, h⟩ := h
        refine vv_iald hC hR hK 1001 (lx_1001 S) hin229 dX0_tells_40 ?_
        refine vv_aload_n hC dX0_tells_41 rfl 0 rfl ?_
        refine vv_getf hC hR hK fxX0_31_X0 0 (lx_0 S) rfl dX0_tells_42 ?_
        refine vv_getf hC hR hK fxX0_164_X3 1000 (lx_1000 S) rfl dX0_tells_45 ?_
        refine vv_iload hC dX0_tells_48 4 rfl ?_
        obtain ⟨hin230, h⟩ := h
        refine vv_iald hC hR hK 1001 (lx_1001 S) hin230 dX0_tells_50 ?_
        refine vv_icmp_eq (tgt := 79) hC dX0_tells_51 rfl (fun c5 => ?_) (fun c5 => ?_)
        · replace h := h.1 c5
          refine vv_lv [0, 1, 3, 4] rfl ?_
          exact L79 _ h4 _ h22 _ _ _ _ h
        · replace h := h.2 c5
          refine vv_aload_n hC dX0_tells_54 rfl 0 rfl ?_
          refine vv_getf hC hR hK fxX0_31_X0 0 (lx_0 S) rfl dX0_tells_55 ?_
          refine vv_getf hC hR hK fxX0_164_X3 1000 (lx_1000 S) rfl dX0_tells_58 ?_
          refine vv_iload_n hC dX0_tells_61 rfl 3 rfl ?_
          obtain ⟨hin231, h⟩ := h
          refine vv_iald hC hR hK 1001 (lx_1001 S) hin231 dX0_tells_62 ?_
          refine vv_aload_n hC dX0_tells_63 rfl 0 rfl ?_
          refine vv_getf hC hR hK fxX0_31_X0 0 (lx_0 S) rfl dX0_tells_64 ?_
          refine vv_getf hC hR hK fxX0_164_X3 1000 (lx_1000 S) rfl dX0_tells_67 ?_
          refine vv_iload hC dX0_tells_70 4 rfl ?_
          obtain ⟨hin232, h⟩ := h
          refine vv_iald hC hR hK 1001 (lx_1001 S) hin232 dX0_tells_72 ?_
          refine vv_ixor hC dX0_tells_73 ?_
          refine vv_iload_n hC dX0_tells_74 rfl 1 rfl ?_
          refine vv_iand hC dX0_tells_75 ?_
          refine vv_if_eq (tgt := 83) hC dX0_tells_76 rfl (fun c6 => ?_) (fun c6 => ?_)
          · replace h := h.1 c6
            refine vv_iconst hC dX0_tells_83 xic_0 ?_
            refine vv_lv [0, 1, 3, 4] rfl ?_
            exact L84 _ h4 _ h22 _ _ _ _ _ h
          · replace h := h.2 c6
            refine vv_lv [0, 1, 3, 4] rfl ?_
            exact L79 _ h4 _ h22 _ _ _ _ h
  have L4 : ∀ (v1 : Int32) (v2 : Int32) (v3 : Int32) (μ : WS), w_X0_tells_4 S  v1 v2 v3 μ Q → VV C 5 (HPW D ac ad (knX S) (ExX D ac ad S) (vS C)) (vQ C (QcW D ac ad (knX S) (qI Q)) 0 0 (inLay ad (knX S))) (μ, ()) 4 [(0, .ref (ad 0)), (1, .int v1), (2, .int v2), (3, .int v3)] [] := by
    intro  v1 v2 v3 μ h
    refine h (fun v1 v2 v3 μ => VV C 5 (HPW D ac ad (knX S) (ExX D ac ad S) (vS C)) (vQ C (QcW D ac ad (knX S) (qI Q)) 0 0 (inLay ad (knX S))) (μ, ()) 4 [(0, .ref (ad 0)), (1, .int v1), (2, .int v2), (3, .int v3)] []) ?_
    clear h; intro v1 v2 v3 μ h
    have h4 : ∀ (v1 : Int32) (v2 : Int32) (v3 : Int32) (μ : WS), (fun v1 v2 v3 (μ : WS) => VV C 5 (HPW D ac ad (knX S) (ExX D ac ad S) (vS C)) (vQ C (QcW D ac ad (knX S) (qI Q)) 0 0 (inLay ad (knX S))) (μ, ()) 4 [(0, .ref (ad 0)), (1, .int v1), (2, .int v2), (3, .int v3)] []) v1 v2 v3 μ → VV C 5 (HPW D ac ad (knX S) (ExX D ac ad S) (vS C)) (vQ C (QcW D ac ad (knX S) (qI Q)) 0 0 (inLay ad (knX S))) (μ, ()) 4 [(0, .ref (ad 0)), (1, .int v1), (2, .int v2), (3, .int v3)] [] := fun _ _ _ _ h => h
    unfold w_X0_tells_4b at h
    refine vv_iload_n hC dX0_tells_4 rfl 3 rfl ?_
    refine vv_aload_n hC dX0_tells_5 rfl 0 rfl ?_
    refine vv_getf hC hR hK fxX0_31_X0 0 (lx_0 S) rfl dX0_tells_6 ?_
    refine vv_getf hC hR hK fxX0_154_X3 1000 (lx_1000 S) rfl dX0_tells_9 ?_
    refine vv_icmp_ge (tgt := 97) hC dX0_tells_12 rfl (fun c1 => ?_) (fun c1 => ?_)
    · replace h := h.1 c1
      refine vv_iload_n hC dX0_tells_97 rfl 2 rfl ?_
      exact vv_zret hC hM dX0_tells_98 h.1 h.2
    · replace h := h.2 c1
      refine vv_iload_n hC dX0_tells_15 rfl 2 rfl ?_
      refine vv_if_eq (tgt := 97) hC dX0_tells_16 rfl (fun c2 => ?_) (fun c2 => ?_)
      · replace h := h.1 c2
        refine vv_iload_n hC dX0_tells_97 rfl 2 rfl ?_
        exact vv_zret hC hM dX0_tells_98 h.1 h.2
      · replace h := h.2 c2
        refine vv_iconst hC dX0_tells_19 xic_0 ?_
        refine vv_istore (lv' := [(4, .int 0), (0, .ref (ad 0)), (1, .int v1), (2, .int v2), (3, .int v3)]) hC dX0_tells_20 (by decide) rfl ?_
        refine vv_lv [1, 2, 3, 4, 0] rfl ?_
        exact L22 _ h4 _ _ _ _ _ h
  unfold w_X0_tells at h
  refine vv_iconst hC dX0_tells_0 xic_1 ?_
  refine vv_istore_n (lv' := [(2, .int 1), (0, .ref (ad 0)), (1, .int v1)]) hC dX0_tells_1 rfl (by decide) rfl ?_
  refine vv_iconst hC dX0_tells_2 xic_0 ?_
  refine vv_istore_n (lv' := [(3, .int 0), (2, .int 1), (0, .ref (ad 0)), (1, .int v1)]) hC dX0_tells_3 rfl (by decide) rfl ?_
  refine vv_lv [2, 3, 1, 0] rfl ?_
  exact L4  _ _ _ _ h
def w_X0_put (S : XS) (v1 : Int32) (μ : WS) (Q : WS → Prop) : Prop := (vp_in (μ.1 0 16) 12 ∧ (∀ μ1 : WS, μ1 = wset μ 115 (μ.1 0 16).toNatClampNeg v1 → (∀ μ2 : WS, μ2 = wset μ1 0 16 ((μ1.1 0 16) + 1) → Q μ2)))
abbrev rm_X0_put : Room := { frames := 0, cells := 0, slots := 0, locals := 0 }
theorem mf_X0_put : MFact yX0_put 1 rm_X0_put := ⟨by decide +kernel, rfl, rfl⟩
set_option maxHeartbeats 4000000 in
theorem met_X0_put (l : Launch) (D : va_G) (ac : Nat → ClassId) (ad : Nat → Nat) (S : XS) (hLay : LayOk ad (knX S)) (v1 : Int32) (μ : WS) (Q : WS → Prop) (h : w_X0_put S v1 μ Q) : CMet l yX0_put cX0_put 2 none rm_X0_put D ac ad (knX S) (ExX D ac ad S) [.ref (ad 0), .int v1] μ (qV Q) := by
  refine vv_met (lv := [(0, .ref (ad 0)), (1, .int v1)]) (by decide) hLay exX_ok (Nat.le_of_ble_eq_true rfl) rfl ⟨rfl, rfl⟩ (fun C hC hK hRm hLl hR hM => ?_)
  subst hLl
  have hRo : RoomOk (HPW D ac ad (knX S) (ExX D ac ad S) (vS C)) (vR C) := HPW.room
  unfold w_X0_put at h
  refine vv_aload_n hC dX0_put_0 rfl 0 rfl ?_
  refine vv_getf hC hR hK fxX0_55_X0 0 (lx_0 S) rfl dX0_put_1 ?_
  refine vv_aload_n hC dX0_put_4 rfl 0 rfl ?_
  refine vv_getf hC hR hK fxX0_121_X0 0 (lx_0 S) rfl dX0_put_5 ?_
  refine vv_iload_n hC dX0_put_8 rfl 1 rfl ?_
  obtain ⟨hin233, h⟩ := h
  refine vv_iast hC hR hK 115 (lx_115 S) hin233 dX0_put_9 ?_
  refine vv_st (fun y e => ?_)
  obtain ⟨μ1, _⟩ := y
  have eμ1 := congrArg Prod.fst e
  clear e
  replace h := h μ1 eμ1
  refine vv_aload_n hC dX0_put_10 rfl 0 rfl ?_
  refine vv_dup hC dX0_put_11 rfl ?_
  refine vv_getf hC hR hK fxX0_121_X0 0 (lx_0 S) rfl dX0_put_12 ?_
  refine vv_iconst hC dX0_put_15 xic_1 ?_
  refine vv_iadd hC dX0_put_16 ?_
  refine vv_puti hC hR hK fxX0_121_X0 0 (lx_0 S) rfl rfl rfl dX0_put_17 ?_
  refine vv_st (fun y e => ?_)
  obtain ⟨μ2, _⟩ := y
  have eμ2 := congrArg Prod.fst e
  clear e
  replace h := h μ2 eμ2
  exact vv_vret hC hM dX0_put_20 h
def w_X0_tell_92 (S : XS) (P67 : Int32 → Int32 → WS → Prop) (v1 : Int32) (v2 : Int32) (μ : WS) (Q : Int32 → WS → Prop) : Prop := P67 v1 (v2 + 1) μ
def w_X0_tell_67b (S : XS) (P67 : Int32 → Int32 → WS → Prop) (v1 : Int32) (v2 : Int32) (μ : WS) (Q : Int32 → WS → Prop) : Prop := ((μ.1 104 2 ≤ v2) → Q (μ.1 0 16) μ) ∧ ((¬ μ.1 104 2 ≤ v2) → ((¬ (v1 >>> (v2 &&& 31)) &&& 1 = 1) → w_X0_tell_92 S P67 v1 v2 μ Q) ∧ (((v1 >>> (v2 &&& 31)) &&& 1 = 1) → (w_X0_put S v2 μ (fun μ24 => w_X0_tell_92 S P67 v1 v2 μ24 Q))))
def w_X0_tell_67 (S : XS) (v1 : Int32) (v2 : Int32) (μ : WS) (Q : Int32 → WS → Prop) : Prop := ∀ P67 : Int32 → Int32 → WS → Prop, (∀ (v1 : Int32) (v2 : Int32) (μ : WS), w_X0_tell_67b S  P67 v1 v2 μ Q → P67 v1 v2 μ) → P67 v1 v2 μ
def w_X0_tell_59 (S : XS) (P14 : Int32 → Int32 → WS → Prop) (v1 : Int32) (v2 : Int32) (μ : WS) (Q : Int32 → WS → Prop) : Prop := P14 v1 (v2 + 1) μ
def w_X0_tell_49 (S : XS) (P14 : Int32 → Int32 → WS → Prop) (v1 : Int32) (v2 : Int32) (μ : WS) (Q : Int32 → WS → Prop) : Prop := (w_X0_tells S v2 μ (fun r20 μ19 => ((r20 = 0) → w_X0_tell_59 S P14 v1 v2 μ19 Q) ∧ ((¬ r20 = 0) → w_X0_tell_59 S P14 v2 v2 μ19 Q)))
def w_X0_tell_14b (S : XS) (P14 : Int32 → Int32 → WS → Prop) (v1 : Int32) (v2 : Int32) (μ : WS) (Q : Int32 → WS → Prop) : Prop := (w_X0_rows S μ (fun r6 μ5 => ((r6 ≤ v2) → w_X0_tell_67 S v1 0 μ5 Q) ∧ ((¬ r6 ≤ v2) → (w_J15_bitCount S v2 μ5 (fun r9 μ8 => (w_J15_bitCount S v1 μ8 (fun r11 μ10 => ((r9 < r11) → w_X0_tell_49 S P14 v1 v2 μ10 Q) ∧ ((¬ r9 < r11) → (w_J15_bitCount S v2 μ10 (fun r14 μ13 => (w_J15_bitCount S v1 μ13 (fun r16 μ15 => ((¬ r14 = r16) → w_X0_tell_59 S P14 v1 v2 μ15 Q) ∧ ((r14 = r16) → ((v1 ≤ v2) → w_X0_tell_59 S P14 v1 v2 μ15 Q) ∧ ((¬ v1 ≤ v2) → w_X0_tell_49 S P14 v1 v2 μ15 Q))))))))))))))
def w_X0_tell_14 (S : XS) (v1 : Int32) (v2 : Int32) (μ : WS) (Q : Int32 → WS → Prop) : Prop := ∀ P14 : Int32 → Int32 → WS → Prop, (∀ (v1 : Int32) (v2 : Int32) (μ : WS), w_X0_tell_14b S  P14 v1 v2 μ Q → P14 v1 v2 μ) → P14 v1 v2 μ
def w_X0_tell (S : XS) (μ : WS) (Q : Int32 → WS → Prop) : Prop := (∀ μ1 : WS, μ1 = wset μ 0 16 0 → (w_X0_rows S μ1 (fun r3 μ2 => (∀ x4 : Int32, x4 = r3 - 1 → w_X0_tell_14 S x4 0 μ2 Q))))
abbrev rm_X0_tell : Room := { frames := 1, cells := 0, slots := 0, locals := 24 }
theorem mf_X0_tell : MFact yX0_tell 0 rm_X0_tell := ⟨by decide +kernel, rfl, rfl⟩
set_option maxHeartbeats 4000000 in
theorem met_X0_tell (l : Launch) (D : va_G) (ac : Nat → ClassId) (ad : Nat → Nat) (S : XS) (hLay : LayOk ad (knX S)) (μ : WS) (Q : Int32 → WS → Prop) (h : w_X0_tell S  μ Q) : CMet l yX0_tell cX0_tell 3 (some .int) rm_X0_tell D ac ad (knX S) (ExX D ac ad S) [.ref (ad 0)] μ (qI Q) := by
  refine vv_met (lv := [(0, .ref (ad 0))]) (by decide) hLay exX_ok (Nat.le_of_ble_eq_true rfl) rfl ⟨rfl, rfl⟩ (fun C hC hK hRm hLl hR hM => ?_)
  subst hLl
  have hRo : RoomOk (HPW D ac ad (knX S) (ExX D ac ad S) (vS C)) (vR C) := HPW.room
  have L92 : ∀ (P67 : Int32 → Int32 → WS → Prop) (h67 : ∀ (v1 : Int32) (v2 : Int32) (μ : WS), P67 v1 v2 μ → VV C 3 (HPW D ac ad (knX S) (ExX D ac ad S) (vS C)) (vQ C (QcW D ac ad (knX S) (qI Q)) 0 0 (inLay ad (knX S))) (μ, ()) 67 [(0, .ref (ad 0)), (1, .int v1), (2, .int v2)] []) (v1 : Int32) (v2 : Int32) (μ : WS), w_X0_tell_92 S P67 v1 v2 μ Q → VV C 3 (HPW D ac ad (knX S) (ExX D ac ad S) (vS C)) (vQ C (QcW D ac ad (knX S) (qI Q)) 0 0 (inLay ad (knX S))) (μ, ()) 92 [(0, .ref (ad 0)), (1, .int v1), (2, .int v2)] [] := by
    intro P67 h67 v1 v2 μ h
    unfold w_X0_tell_92 at h
    refine vv_iinc (pl := 2) (v := v2 + 1) (lv' := [(2, .int (v2 + 1)), (0, .ref (ad 0)), (1, .int v1)]) hC dX0_tell_92 rfl rfl (by decide) rfl ?_
    refine vv_goto (tgt := 67) hC dX0_tell_95 rfl ?_
    refine vv_lv [1, 2, 0] rfl ?_
    exact h67 _ _ _ h
  have L67 : ∀ (v1 : Int32) (v2 : Int32) (μ : WS), w_X0_tell_67 S  v1 v2 μ Q → VV C 3 (HPW D ac ad (knX S) (ExX D ac ad S) (vS C)) (vQ C (QcW D ac ad (knX S) (qI Q)) 0 0 (inLay ad (knX S))) (μ, ()) 67 [(0, .ref (ad 0)), (1, .int v1), (2, .int v2)] [] := by
    intro  v1 v2 μ h
    refine h (fun v1 v2 μ => VV C 3 (HPW D ac ad (knX S) (ExX D ac ad S) (vS C)) (vQ C (QcW D ac ad (knX S) (qI Q)) 0 0 (inLay ad (knX S))) (μ, ()) 67 [(0, .ref (ad 0)), (1, .int v1), (2, .int v2)] []) ?_
    clear h; intro v1 v2 μ h
    have h67 : ∀ (v1 : Int32) (v2 : Int32) (μ : WS), (fun v1 v2 (μ : WS) => VV C 3 (HPW D ac ad (knX S) (ExX D ac ad S) (vS C)) (vQ C (QcW D ac ad (knX S) (qI Q)) 0 0 (inLay ad (knX S))) (μ, ()) 67 [(0, .ref (ad 0)), (1, .int v1), (2, .int v2)] []) v1 v2 μ → VV C 3 (HPW D ac ad (knX S) (ExX D ac ad S) (vS C)) (vQ C (QcW D ac ad (knX S) (qI Q)) 0 0 (inLay ad (knX S))) (μ, ()) 67 [(0, .ref (ad 0)), (1, .int v1), (2, .int v2)] [] := fun _ _ _ h => h
    unfold w_X0_tell_67b at h
    refine vv_iload_n hC dX0_tell_67 rfl 2 rfl ?_
    refine vv_aload_n hC dX0_tell_68 rfl 0 rfl ?_
    refine vv_getf hC hR hK fxX0_20_X0 0 (lx_0 S) rfl dX0_tell_69 ?_
    refine vv_getf hC hR hK fxX0_147_X1 104 (lx_104 S) rfl dX0_tell_72 ?_
    refine vv_icmp_ge (tgt := 98) hC dX0_tell_75 rfl (fun c22 => ?_) (fun c22 => ?_)
    · replace h := h.1 c22
      refine vv_aload_n hC dX0_tell_98 rfl 0 rfl ?_
      refine vv_getf hC hR hK fxX0_121_X0 0 (lx_0 S) rfl dX0_tell_99 ?_
      exact vv_iret hC hM dX0_tell_102 h
    · replace h := h.2 c22
      refine vv_iload_n hC dX0_tell_78 rfl 1 rfl ?_
      refine vv_iload_n hC dX0_tell_79 rfl 2 rfl ?_
      refine vv_ishr hC dX0_tell_80 ?_
      refine vv_iconst hC dX0_tell_81 xic_1 ?_
      refine vv_iand hC dX0_tell_82 ?_
      refine vv_iconst hC dX0_tell_83 xic_1 ?_
      refine vv_icmp_ne (tgt := 92) hC dX0_tell_84 rfl (fun c23 => ?_) (fun c23 => ?_)
      · replace h := h.1 c23
        exact L92 _ h67 _ _ _ h
      · replace h := h.2 c23
        refine vv_aload_n hC dX0_tell_87 rfl 0 rfl ?_
        refine vv_iload_n hC dX0_tell_88 rfl 2 rfl ?_
        refine vv_callVv hC hR hK hRo hRm [.int v2] [] (met_X0_put (vL C) D ac ad S hLay v2 μ _ h) gxX0_267 mf_X0_put rfl (lx_0 S) rfl rfl rfl rfl dX0_tell_89 (fun μ24 h => ?_)
        exact L92 _ h67 _ _ _ h
  have L59 : ∀ (P14 : Int32 → Int32 → WS → Prop) (h14 : ∀ (v1 : Int32) (v2 : Int32) (μ : WS), P14 v1 v2 μ → VV C 3 (HPW D ac ad (knX S) (ExX D ac ad S) (vS C)) (vQ C (QcW D ac ad (knX S) (qI Q)) 0 0 (inLay ad (knX S))) (μ, ()) 14 [(0, .ref (ad 0)), (1, .int v1), (2, .int v2)] []) (v1 : Int32) (v2 : Int32) (μ : WS), w_X0_tell_59 S P14 v1 v2 μ Q → VV C 3 (HPW D ac ad (knX S) (ExX D ac ad S) (vS C)) (vQ C (QcW D ac ad (knX S) (qI Q)) 0 0 (inLay ad (knX S))) (μ, ()) 59 [(0, .ref (ad 0)), (1, .int v1), (2, .int v2)] [] := by
    intro P14 h14 v1 v2 μ h
    unfold w_X0_tell_59 at h
    refine vv_iinc (pl := 2) (v := v2 + 1) (lv' := [(2, .int (v2 + 1)), (0, .ref (ad 0)), (1, .int v1)]) hC dX0_tell_59 rfl rfl (by decide) rfl ?_
    refine vv_goto (tgt := 14) hC dX0_tell_62 rfl ?_
    refine vv_lv [1, 2, 0] rfl ?_
    exact h14 _ _ _ h
  have L49 : ∀ (P14 : Int32 → Int32 → WS → Prop) (h14 : ∀ (v1 : Int32) (v2 : Int32) (μ : WS), P14 v1 v2 μ → VV C 3 (HPW D ac ad (knX S) (ExX D ac ad S) (vS C)) (vQ C (QcW D ac ad (knX S) (qI Q)) 0 0 (inLay ad (knX S))) (μ, ()) 14 [(0, .ref (ad 0)), (1, .int v1), (2, .int v2)] []) (v1 : Int32) (v2 : Int32) (μ : WS), w_X0_tell_49 S P14 v1 v2 μ Q → VV C 3 (HPW D ac ad (knX S) (ExX D ac ad S) (vS C)) (vQ C (QcW D ac ad (knX S) (qI Q)) 0 0 (inLay ad (knX S))) (μ, ()) 49 [(0, .ref (ad 0)), (1, .int v1), (2, .int v2)] [] := by
    intro P14 h14 v1 v2 μ h
    unfold w_X0_tell_49 at h
    refine vv_aload_n hC dX0_tell_49 rfl 0 rfl ?_
    refine vv_iload_n hC dX0_tell_50 rfl 2 rfl ?_
    refine vv_callVi hC hR hK hRo hRm [.int v2] [] (met_X0_tells (vL C) D ac ad S hLay v2 μ _ h) gxX0_264 mf_X0_tells rfl (lx_0 S) rfl rfl rfl rfl dX0_tell_51 (fun r20 μ19 h => ?_)
    refine vv_if_eq (tgt := 59) hC dX0_tell_54 rfl (fun c21 => ?_) (fun c21 => ?_)
    · replace h := h.1 c21
      exact L59 _ h14 _ _ _ h
    · replace h := h.2 c21
      refine vv_iload_n hC dX0_tell_57 rfl 2 rfl ?_
      refine vv_istore_n (lv' := [(1, .int v2), (0, .ref (ad 0)), (2, .int v2)]) hC dX0_tell_58 rfl (by decide) rfl ?_
      refine vv_lv [1, 0, 2] rfl ?_
      exact L59 _ h14 _ _ _ h
  have L14 : ∀ (v1 : Int32) (v2 : Int32) (μ : WS), w_X0_tell_14 S  v1 v2 μ Q → VV C 3 (HPW D ac ad (knX S) (ExX D ac ad S) (vS C)) (vQ C (QcW D ac ad (knX S) (qI Q)) 0 0 (inLay ad (knX S))) (μ, ()) 14 [(0, .ref (ad 0)), (1, .int v1), (2, .int v2)] [] := by
    intro  v1 v2 μ h
    refine h (fun v1 v2 μ => VV C 3 (HPW D ac ad (knX S) (ExX D ac ad S) (vS C)) (vQ C (QcW D ac ad (knX S) (qI Q)) 0 0 (inLay ad (knX S))) (μ, ()) 14 [(0, .ref (ad 0)), (1, .int v1), (2, .int v2)] []) ?_
    clear h; intro v1 v2 μ h
    have h14 : ∀ (v1 : Int32) (v2 : Int32) (μ : WS), (fun v1 v2 (μ : WS) => VV C 3 (HPW D ac ad (knX S) (ExX D ac ad S) (vS C)) (vQ C (QcW D ac ad (knX S) (qI Q)) 0 0 (inLay ad (knX S))) (μ, ()) 14 [(0, .ref (ad 0)), (1, .int v1), (2, .int v2)] []) v1 v2 μ → VV C 3 (HPW D ac ad (knX S) (ExX D ac ad S) (vS C)) (vQ C (QcW D ac ad (knX S) (qI Q)) 0 0 (inLay ad (knX S))) (μ, ()) 14 [(0, .ref (ad 0)), (1, .int v1), (2, .int v2)] [] := fun _ _ _ h => h
    unfold w_X0_tell_14b at h
    refine vv_iload_n hC dX0_tell_14 rfl 2 rfl ?_
    refine vv_aload_n hC dX0_tell_15 rfl 0 rfl ?_
    refine vv_callVi hC hR hK hRo hRm [] [.int v2] (met_X0_rows (vL C) D ac ad S hLay  μ _ h) gxX0_157 mf_X0_rows rfl (lx_0 S) rfl rfl rfl rfl dX0_tell_16 (fun r6 μ5 h => ?_)
    refine vv_icmp_ge (tgt := 65) hC dX0_tell_19 rfl (fun c7 => ?_) (fun c7 => ?_)
    · replace h := h.1 c7
      refine vv_iconst hC dX0_tell_65 xic_0 ?_
      refine vv_istore_n (lv' := [(2, .int 0), (0, .ref (ad 0)), (1, .int v1)]) hC dX0_tell_66 rfl (by decide) rfl ?_
      refine vv_lv [1, 2, 0] rfl ?_
      exact L67  _ _ _ h
    · replace h := h.2 c7
      refine vv_iload_n hC dX0_tell_22 rfl 2 rfl ?_
      refine vv_callSi hC hR hK hRo hRm [.int v2] [] (met_J15_bitCount (vL C) D ac ad S hLay v2 μ5 _ h) gxX0_240 mf_J15_bitCount rfl rfl rfl dX0_tell_23 (fun r9 μ8 h => ?_)
      refine vv_iload_n hC dX0_tell_26 rfl 1 rfl ?_
      refine vv_callSi hC hR hK hRo hRm [.int v1] [.int r9] (met_J15_bitCount (vL C) D ac ad S hLay v1 μ8 _ h) gxX0_240 mf_J15_bitCount rfl rfl rfl dX0_tell_27 (fun r11 μ10 h => ?_)
      refine vv_icmp_lt (tgt := 49) hC dX0_tell_30 rfl (fun c12 => ?_) (fun c12 => ?_)
      · replace h := h.1 c12
        exact L49 _ h14 _ _ _ h
      · replace h := h.2 c12
        refine vv_iload_n hC dX0_tell_33 rfl 2 rfl ?_
        refine vv_callSi hC hR hK hRo hRm [.int v2] [] (met_J15_bitCount (vL C) D ac ad S hLay v2 μ10 _ h) gxX0_240 mf_J15_bitCount rfl rfl rfl dX0_tell_34 (fun r14 μ13 h => ?_)
        refine vv_iload_n hC dX0_tell_37 rfl 1 rfl ?_
        refine vv_callSi hC hR hK hRo hRm [.int v1] [.int r14] (met_J15_bitCount (vL C) D ac ad S hLay v1 μ13 _ h) gxX0_240 mf_J15_bitCount rfl rfl rfl dX0_tell_38 (fun r16 μ15 h => ?_)
        refine vv_icmp_ne (tgt := 59) hC dX0_tell_41 rfl (fun c17 => ?_) (fun c17 => ?_)
        · replace h := h.1 c17
          exact L59 _ h14 _ _ _ h
        · replace h := h.2 c17
          refine vv_iload_n hC dX0_tell_44 rfl 2 rfl ?_
          refine vv_iload_n hC dX0_tell_45 rfl 1 rfl ?_
          refine vv_icmp_ge (tgt := 59) hC dX0_tell_46 rfl (fun c18 => ?_) (fun c18 => ?_)
          · replace h := h.1 c18
            exact L59 _ h14 _ _ _ h
          · replace h := h.2 c18
            exact L49 _ h14 _ _ _ h
  unfold w_X0_tell at h
  refine vv_aload_n hC dX0_tell_0 rfl 0 rfl ?_
  refine vv_iconst hC dX0_tell_1 xic_0 ?_
  refine vv_puti hC hR hK fxX0_121_X0 0 (lx_0 S) rfl rfl rfl dX0_tell_2 ?_
  refine vv_st (fun y e => ?_)
  obtain ⟨μ1, _⟩ := y
  have eμ1 := congrArg Prod.fst e
  clear e
  replace h := h μ1 eμ1
  refine vv_aload_n hC dX0_tell_5 rfl 0 rfl ?_
  refine vv_callVi hC hR hK hRo hRm [] [] (met_X0_rows (vL C) D ac ad S hLay  μ1 _ h) gxX0_157 mf_X0_rows rfl (lx_0 S) rfl rfl rfl rfl dX0_tell_6 (fun r3 μ2 h => ?_)
  refine vv_iconst hC dX0_tell_9 xic_1 ?_
  refine vv_isub hC dX0_tell_10 ?_
  refine vv_topi (fun x4 ex4 => ?_)
  replace h := h x4 ex4
  refine vv_istore_n (lv' := [(1, .int x4), (0, .ref (ad 0))]) hC dX0_tell_11 rfl (by decide) rfl ?_
  refine vv_iconst hC dX0_tell_12 xic_0 ?_
  refine vv_istore_n (lv' := [(2, .int 0), (1, .int x4), (0, .ref (ad 0))]) hC dX0_tell_13 rfl (by decide) rfl ?_
  refine vv_lv [2, 1, 0] rfl ?_
  exact L14  _ _ _ h
def w_X0_round_75b (S : XS) (P75 : Int32 → Int32 → Int32 → Int32 → Int32 → WS → Prop) (v2 : Int32) (v3 : Int32) (v4 : Int32) (v5 : Int32) (v6 : Int32) (μ : WS) (Q : Int32 → WS → Prop) : Prop := (vp_in v5 4096 ∧ ((0 ≤ μ.1 117 v5.toNatClampNeg) → ((¬ v4 = 0) → (vp_in v5 4096 ∧ Q (v6 - (μ.1 117 v5.toNatClampNeg)) μ)) ∧ ((v4 = 0) → Q v6 μ)) ∧ ((¬ 0 ≤ μ.1 117 v5.toNatClampNeg) → (vp_in v5 4096 ∧ (∀ μ20 : WS, μ20 = wset μ 117 v5.toNatClampNeg v6 → (w_X0_castOf S v5 v2 v3 μ20 (fun r22 μ21 => P75 v2 v3 v4 r22 (v6 + 1) μ21))))))
def w_X0_round_75 (S : XS) (v2 : Int32) (v3 : Int32) (v4 : Int32) (v5 : Int32) (v6 : Int32) (μ : WS) (Q : Int32 → WS → Prop) : Prop := ∀ P75 : Int32 → Int32 → Int32 → Int32 → Int32 → WS → Prop, (∀ (v2 : Int32) (v3 : Int32) (v4 : Int32) (v5 : Int32) (v6 : Int32) (μ : WS), w_X0_round_75b S  P75 v2 v3 v4 v5 v6 μ Q → P75 v2 v3 v4 v5 v6 μ) → P75 v2 v3 v4 v5 v6 μ
def w_X0_round_38b (S : XS) (P38 : Int32 → Int32 → Int32 → Int32 → Int32 → WS → Prop) (v1 : Int32) (v2 : Int32) (v3 : Int32) (v4 : Int32) (v5 : Int32) (μ : WS) (Q : Int32 → WS → Prop) : Prop := (w_X0_rows S μ (fun r14 μ13 => ((r14 ≤ v5) → (vp_in v1 24 ∧ (∀ x16 : Int32, x16 = μ13.1 1001 v1.toNatClampNeg → w_X0_round_75 S v2 v3 v4 x16 0 μ13 Q))) ∧ ((¬ r14 ≤ v5) → (vp_in v5 4096 ∧ (∀ μ17 : WS, μ17 = wset μ13 117 v5.toNatClampNeg (-1) → P38 v1 v2 v3 v4 (v5 + 1) μ17)))))
def w_X0_round_38 (S : XS) (v1 : Int32) (v2 : Int32) (v3 : Int32) (v4 : Int32) (v5 : Int32) (μ : WS) (Q : Int32 → WS → Prop) : Prop := ∀ P38 : Int32 → Int32 → Int32 → Int32 → Int32 → WS → Prop, (∀ (v1 : Int32) (v2 : Int32) (v3 : Int32) (v4 : Int32) (v5 : Int32) (μ : WS), w_X0_round_38b S  P38 v1 v2 v3 v4 v5 μ Q → P38 v1 v2 v3 v4 v5 μ) → P38 v1 v2 v3 v4 v5 μ
def w_X0_round (S : XS) (v1 : Int32) (v2 : Int32) (v3 : Int32) (v4 : Int32) (μ : WS) (Q : Int32 → WS → Prop) : Prop := (w_X0_isSeal S v1 μ (fun r2 μ1 => ((r2 = 0) → Q (-1) μ1) ∧ ((¬ r2 = 0) → (w_X0_isHand S v2 μ1 (fun r5 μ4 => ((r5 = 0) → Q (-1) μ4) ∧ ((¬ r5 = 0) → (w_X0_isHeat S v3 μ4 (fun r8 μ7 => ((r8 = 0) → Q (-1) μ7) ∧ ((¬ r8 = 0) → (w_X0_isIn S v4 0 1 μ7 (fun r11 μ10 => ((¬ r11 = 0) → w_X0_round_38 S v1 v2 v3 v4 0 μ10 Q) ∧ ((r11 = 0) → Q (-1) μ10))))))))))))
abbrev rm_X0_round : Room := { frames := 1703, cells := 0, slots := 0, locals := 51083 }
theorem mf_X0_round : MFact yX0_round 4 rm_X0_round := ⟨by decide +kernel, rfl, rfl⟩
set_option maxHeartbeats 4000000 in
theorem met_X0_round (l : Launch) (D : va_G) (ac : Nat → ClassId) (ad : Nat → Nat) (S : XS) (hLay : LayOk ad (knX S)) (v1 : Int32) (v2 : Int32) (v3 : Int32) (v4 : Int32) (μ : WS) (Q : Int32 → WS → Prop) (h : w_X0_round S v1 v2 v3 v4 μ Q) : CMet l yX0_round cX0_round 7 (some .int) rm_X0_round D ac ad (knX S) (ExX D ac ad S) [.ref (ad 0), .int v1, .int v2, .int v3, .int v4] μ (qI Q) := by
  refine vv_met (lv := [(0, .ref (ad 0)), (1, .int v1), (2, .int v2), (3, .int v3), (4, .int v4)]) (by decide) hLay exX_ok (Nat.le_of_ble_eq_true rfl) rfl ⟨rfl, rfl⟩ (fun C hC hK hRm hLl hR hM => ?_)
  subst hLl
  have hRo : RoomOk (HPW D ac ad (knX S) (ExX D ac ad S) (vS C)) (vR C) := HPW.room
  have L75 : ∀ (v2 : Int32) (v3 : Int32) (v4 : Int32) (v5 : Int32) (v6 : Int32) (μ : WS), w_X0_round_75 S  v2 v3 v4 v5 v6 μ Q → VV C 7 (HPW D ac ad (knX S) (ExX D ac ad S) (vS C)) (vQ C (QcW D ac ad (knX S) (qI Q)) 0 0 (inLay ad (knX S))) (μ, ()) 75 [(0, .ref (ad 0)), (2, .int v2), (3, .int v3), (4, .int v4), (5, .int v5), (6, .int v6)] [] := by
    intro  v2 v3 v4 v5 v6 μ h
    refine h (fun v2 v3 v4 v5 v6 μ => VV C 7 (HPW D ac ad (knX S) (ExX D ac ad S) (vS C)) (vQ C (QcW D ac ad (knX S) (qI Q)) 0 0 (inLay ad (knX S))) (μ, ()) 75 [(0, .ref (ad 0)), (2, .int v2), (3, .int v3), (4, .int v4), (5, .int v5), (6, .int v6)] []) ?_
    clear h; intro v2 v3 v4 v5 v6 μ h
    have h75 : ∀ (v2 : Int32) (v3 : Int32) (v4 : Int32) (v5 : Int32) (v6 : Int32) (μ : WS), (fun v2 v3 v4 v5 v6 (μ : WS) => VV C 7 (HPW D ac ad (knX S) (ExX D ac ad S) (vS C)) (vQ C (QcW D ac ad (knX S) (qI Q)) 0 0 (inLay ad (knX S))) (μ, ()) 75 [(0, .ref (ad 0)), (2, .int v2), (3, .int v3), (4, .int v4), (5, .int v5), (6, .int v6)] []) v2 v3 v4 v5 v6 μ → VV C 7 (HPW D ac ad (knX S) (ExX D ac ad S) (vS C)) (vQ C (QcW D ac ad (knX S) (qI Q)) 0 0 (inLay ad (knX S))) (μ, ()) 75 [(0, .ref (ad 0)), (2, .int v2), (3, .int v3), (4, .int v4), (5, .int v5), (6, .int v6)] [] := fun _ _ _ _ _ _ h => h
    unfold w_X0_round_75b at h
    refine vv_aload_n hC dX0_round_75 rfl 0 rfl ?_
    refine vv_getf hC hR hK fxX0_58_X0 0 (lx_0 S) rfl dX0_round_76 ?_
    refine vv_iload hC dX0_round_79 4 rfl ?_
    obtain ⟨hin236, h⟩ := h
    refine vv_iald hC hR hK 117 (lx_117 S) hin236 dX0_round_81 ?_
    refine vv_if_ge (tgt := 110) hC dX0_round_82 rfl (fun c18 => ?_) (fun c18 => ?_)
    · replace h := h.1 c18
      refine vv_iload hC dX0_round_110 3 rfl ?_
      refine vv_if_ne (tgt := 120) hC dX0_round_112 rfl (fun c19 => ?_) (fun c19 => ?_)
      · replace h := h.1 c19
        refine vv_iload hC dX0_round_120 5 rfl ?_
        refine vv_aload_n hC dX0_round_122 rfl 0 rfl ?_
        refine vv_getf hC hR hK fxX0_58_X0 0 (lx_0 S) rfl dX0_round_123 ?_
        refine vv_iload hC dX0_round_126 4 rfl ?_
        obtain ⟨hin237, h⟩ := h
        refine vv_iald hC hR hK 117 (lx_117 S) hin237 dX0_round_128 ?_
        refine vv_isub hC dX0_round_129 ?_
        exact vv_iret hC hM dX0_round_130 h
      · replace h := h.2 c19
        refine vv_iload hC dX0_round_115 5 rfl ?_
        refine vv_goto (tgt := 130) hC dX0_round_117 rfl ?_
        exact vv_iret hC hM dX0_round_130 h
    · replace h := h.2 c18
      refine vv_aload_n hC dX0_round_85 rfl 0 rfl ?_
      refine vv_getf hC hR hK fxX0_58_X0 0 (lx_0 S) rfl dX0_round_86 ?_
      refine vv_iload hC dX0_round_89 4 rfl ?_
      refine vv_iload hC dX0_round_91 5 rfl ?_
      obtain ⟨hin238, h⟩ := h
      refine vv_iast hC hR hK 117 (lx_117 S) hin238 dX0_round_93 ?_
      refine vv_st (fun y e => ?_)
      obtain ⟨μ20, _⟩ := y
      have eμ20 := congrArg Prod.fst e
      clear e
      replace h := h μ20 eμ20
      refine vv_aload_n hC dX0_round_94 rfl 0 rfl ?_
      refine vv_iload hC dX0_round_95 4 rfl ?_
      refine vv_iload_n hC dX0_round_97 rfl 1 rfl ?_
      refine vv_iload_n hC dX0_round_98 rfl 2 rfl ?_
      refine vv_callVi hC hR hK hRo hRm [.int v5, .int v2, .int v3] [] (met_X0_castOf (vL C) D ac ad S hLay v5 v2 v3 μ20 _ h) gxX0_236 mf_X0_castOf rfl (lx_0 S) rfl rfl rfl rfl dX0_round_99 (fun r22 μ21 h => ?_)
      refine vv_istore (lv' := [(5, .int r22), (0, .ref (ad 0)), (2, .int v2), (3, .int v3), (4, .int v4), (6, .int v6)]) hC dX0_round_102 (by decide) rfl ?_
      refine vv_iinc (pl := 5) (v := v6 + 1) (lv' := [(6, .int (v6 + 1)), (5, .int r22), (0, .ref (ad 0)), (2, .int v2), (3, .int v3), (4, .int v4)]) hC dX0_round_104 rfl rfl (by decide) rfl ?_
      refine vv_goto (tgt := 75) hC dX0_round_107 rfl ?_
      refine vv_lv [2, 3, 4, 5, 1, 0] rfl ?_
      exact h75 _ _ _ _ _ _ h
  have L38 : ∀ (v1 : Int32) (v2 : Int32) (v3 : Int32) (v4 : Int32) (v5 : Int32) (μ : WS), w_X0_round_38 S  v1 v2 v3 v4 v5 μ Q → VV C 7 (HPW D ac ad (knX S) (ExX D ac ad S) (vS C)) (vQ C (QcW D ac ad (knX S) (qI Q)) 0 0 (inLay ad (knX S))) (μ, ()) 38 [(0, .ref (ad 0)), (1, .int v1), (2, .int v2), (3, .int v3), (4, .int v4), (5, .int v5)] [] := by
    intro  v1 v2 v3 v4 v5 μ h
    refine h (fun v1 v2 v3 v4 v5 μ => VV C 7 (HPW D ac ad (knX S) (ExX D ac ad S) (vS C)) (vQ C (QcW D ac ad (knX S) (qI Q)) 0 0 (inLay ad (knX S))) (μ, ()) 38 [(0, .ref (ad 0)), (1, .int v1), (2, .int v2), (3, .int v3), (4, .int v4), (5, .int v5)] []) ?_
    clear h; intro v1 v2 v3 v4 v5 μ h
    have h38 : ∀ (v1 : Int32) (v2 : Int32) (v3 : Int32) (v4 : Int32) (v5 : Int32) (μ : WS), (fun v1 v2 v3 v4 v5 (μ : WS) => VV C 7 (HPW D ac ad (knX S) (ExX D ac ad S) (vS C)) (vQ C (QcW D ac ad (knX S) (qI Q)) 0 0 (inLay ad (knX S))) (μ, ()) 38 [(0, .ref (ad 0)), (1, .int v1), (2, .int v2), (3, .int v3), (4, .int v4), (5, .int v5)] []) v1 v2 v3 v4 v5 μ → VV C 7 (HPW D ac ad (knX S) (ExX D ac ad S) (vS C)) (vQ C (QcW D ac ad (knX S) (qI Q)) 0 0 (inLay ad (knX S))) (μ, ()) 38 [(0, .ref (ad 0)), (1, .int v1), (2, .int v2), (3, .int v3), (4, .int v4), (5, .int v5)] [] := fun _ _ _ _ _ _ h => h
    unfold w_X0_round_38b at h
    refine vv_iload hC dX0_round_38 5 rfl ?_
    refine vv_aload_n hC dX0_round_40 rfl 0 rfl ?_
    refine vv_callVi hC hR hK hRo hRm [] [.int v5] (met_X0_rows (vL C) D ac ad S hLay  μ _ h) gxX0_157 mf_X0_rows rfl (lx_0 S) rfl rfl rfl rfl dX0_round_41 (fun r14 μ13 h => ?_)
    refine vv_icmp_ge (tgt := 61) hC dX0_round_44 rfl (fun c15 => ?_) (fun c15 => ?_)
    · replace h := h.1 c15
      refine vv_aload_n hC dX0_round_61 rfl 0 rfl ?_
      refine vv_getf hC hR hK fxX0_31_X0 0 (lx_0 S) rfl dX0_round_62 ?_
      refine vv_getf hC hR hK fxX0_164_X3 1000 (lx_1000 S) rfl dX0_round_65 ?_
      refine vv_iload_n hC dX0_round_68 rfl 1 rfl ?_
      obtain ⟨hin234, h⟩ := h
      refine vv_iald hC hR hK 1001 (lx_1001 S) hin234 dX0_round_69 ?_
      refine vv_topi (fun x16 ex16 => ?_)
      replace h := h x16 ex16
      refine vv_istore (lv' := [(5, .int x16), (0, .ref (ad 0)), (1, .int v1), (2, .int v2), (3, .int v3), (4, .int v4)]) hC dX0_round_70 (by decide) rfl ?_
      refine vv_iconst hC dX0_round_72 xic_0 ?_
      refine vv_istore (lv' := [(6, .int 0), (5, .int x16), (0, .ref (ad 0)), (1, .int v1), (2, .int v2), (3, .int v3), (4, .int v4)]) hC dX0_round_73 (by decide) rfl ?_
      refine vv_lv [2, 4, 5, 6, 1, 0] rfl ?_
      exact L75  _ _ _ _ _ _ h
    · replace h := h.2 c15
      refine vv_aload_n hC dX0_round_47 rfl 0 rfl ?_
      refine vv_getf hC hR hK fxX0_58_X0 0 (lx_0 S) rfl dX0_round_48 ?_
      refine vv_iload hC dX0_round_51 5 rfl ?_
      refine vv_iconst hC dX0_round_53 xic_m1 ?_
      obtain ⟨hin235, h⟩ := h
      refine vv_iast hC hR hK 117 (lx_117 S) hin235 dX0_round_54 ?_
      refine vv_st (fun y e => ?_)
      obtain ⟨μ17, _⟩ := y
      have eμ17 := congrArg Prod.fst e
      clear e
      replace h := h μ17 eμ17
      refine vv_iinc (pl := 5) (v := v5 + 1) (lv' := [(5, .int (v5 + 1)), (0, .ref (ad 0)), (1, .int v1), (2, .int v2), (3, .int v3), (4, .int v4)]) hC dX0_round_55 rfl rfl (by decide) rfl ?_
      refine vv_goto (tgt := 38) hC dX0_round_58 rfl ?_
      refine vv_lv [1, 2, 3, 4, 5, 0] rfl ?_
      exact h38 _ _ _ _ _ _ h
  unfold w_X0_round at h
  refine vv_aload_n hC dX0_round_0 rfl 0 rfl ?_
  refine vv_iload_n hC dX0_round_1 rfl 1 rfl ?_
  refine vv_callVi hC hR hK hRo hRm [.int v1] [] (met_X0_isSeal (vL C) D ac ad S hLay v1 μ _ h) gxX0_160 mf_X0_isSeal rfl (lx_0 S) rfl rfl rfl rfl dX0_round_2 (fun r2 μ1 h => ?_)
  refine vv_if_eq (tgt := 33) hC dX0_round_5 rfl (fun c3 => ?_) (fun c3 => ?_)
  · replace h := h.1 c3
    refine vv_iconst hC dX0_round_33 xic_m1 ?_
    exact vv_iret hC hM dX0_round_34 h
  · replace h := h.2 c3
    refine vv_aload_n hC dX0_round_8 rfl 0 rfl ?_
    refine vv_iload_n hC dX0_round_9 rfl 2 rfl ?_
    refine vv_callVi hC hR hK hRo hRm [.int v2] [] (met_X0_isHand (vL C) D ac ad S hLay v2 μ1 _ h) gxX0_204 mf_X0_isHand rfl (lx_0 S) rfl rfl rfl rfl dX0_round_10 (fun r5 μ4 h => ?_)
    refine vv_if_eq (tgt := 33) hC dX0_round_13 rfl (fun c6 => ?_) (fun c6 => ?_)
    · replace h := h.1 c6
      refine vv_iconst hC dX0_round_33 xic_m1 ?_
      exact vv_iret hC hM dX0_round_34 h
    · replace h := h.2 c6
      refine vv_iload_n hC dX0_round_16 rfl 3 rfl ?_
      refine vv_callSi hC hR hK hRo hRm [.int v3] [] (met_X0_isHeat (vL C) D ac ad S hLay v3 μ4 _ h) gxX0_207 mf_X0_isHeat rfl rfl rfl dX0_round_17 (fun r8 μ7 h => ?_)
      refine vv_if_eq (tgt := 33) hC dX0_round_20 rfl (fun c9 => ?_) (fun c9 => ?_)
      · replace h := h.1 c9
        refine vv_iconst hC dX0_round_33 xic_m1 ?_
        exact vv_iret hC hM dX0_round_34 h
      · replace h := h.2 c9
        refine vv_iload hC dX0_round_23 4 rfl ?_
        refine vv_iconst hC dX0_round_25 xic_0 ?_
        refine vv_iconst hC dX0_round_26 xic_1 ?_
        refine vv_callSi hC hR hK hRo hRm [.int v4, .int 0, .int 1] [] (met_X0_isIn (vL C) D ac ad S hLay v4 0 1 μ7 _ h) gxX0_150 mf_X0_isIn rfl rfl rfl dX0_round_27 (fun r11 μ10 h => ?_)
        refine vv_if_ne (tgt := 35) hC dX0_round_30 rfl (fun c12 => ?_) (fun c12 => ?_)
        · replace h := h.1 c12
          refine vv_iconst hC dX0_round_35 xic_0 ?_
          refine vv_istore (lv' := [(5, .int 0), (0, .ref (ad 0)), (1, .int v1), (2, .int v2), (3, .int v3), (4, .int v4)]) hC dX0_round_36 (by decide) rfl ?_
          refine vv_lv [1, 2, 3, 4, 5, 0] rfl ?_
          exact L38  _ _ _ _ _ _ h
        · replace h := h.2 c12
          refine vv_iconst hC dX0_round_33 xic_m1 ?_
          exact vv_iret hC hM dX0_round_34 h
def w_X0_steady_96 (S : XS) (P35 : Int32 → Int32 → Int32 → Int32 → Int32 → Int32 → WS → Prop) (v1 : Int32) (v2 : Int32) (v3 : Int32) (v4 : Int32) (v5 : Int32) (v6 : Int32) (μ : WS) (Q : Int32 → WS → Prop) : Prop := P35 v1 v2 v3 v4 v5 (v6 + 1) μ
def w_X0_steady_94 (S : XS) (P35 : Int32 → Int32 → Int32 → Int32 → Int32 → Int32 → WS → Prop) (s0 : Int32) (v1 : Int32) (v2 : Int32) (v3 : Int32) (v4 : Int32) (v6 : Int32) (μ : WS) (Q : Int32 → WS → Prop) : Prop := w_X0_steady_96 S P35 v1 v2 v3 v4 s0 v6 μ Q
def w_X0_steady_87 (S : XS) (P35 : Int32 → Int32 → Int32 → Int32 → Int32 → Int32 → WS → Prop) (v1 : Int32) (v2 : Int32) (v3 : Int32) (v4 : Int32) (v6 : Int32) (μ : WS) (Q : Int32 → WS → Prop) : Prop := w_X0_steady_94 S P35 v6 v1 v2 v3 v4 v6 μ Q
def w_X0_steady_35b (S : XS) (P35 : Int32 → Int32 → Int32 → Int32 → Int32 → Int32 → WS → Prop) (v1 : Int32) (v2 : Int32) (v3 : Int32) (v4 : Int32) (v5 : Int32) (v6 : Int32) (μ : WS) (Q : Int32 → WS → Prop) : Prop := (w_X0_rows S μ (fun r11 μ10 => ((r11 ≤ v6) → ((¬ v3 = 0) → Q v5 μ10) ∧ ((v3 = 0) → Q v4 μ10)) ∧ ((¬ r11 ≤ v6) → (w_X0_castOf S v6 v1 v2 μ10 (fun r15 μ14 => (w_X0_castOf S r15 v1 v2 μ14 (fun r17 μ16 => ((r17 = v6) → ((v5 < 0) → w_X0_steady_87 S P35 v1 v2 v3 (v4 + 1) v6 μ16 Q) ∧ ((¬ v5 < 0) → (w_J15_bitCount S v6 μ16 (fun r21 μ20 => (w_J15_bitCount S v5 μ20 (fun r23 μ22 => ((r21 ≤ r23) → w_X0_steady_94 S P35 v5 v1 v2 v3 (v4 + 1) v6 μ22 Q) ∧ ((¬ r21 ≤ r23) → w_X0_steady_87 S P35 v1 v2 v3 (v4 + 1) v6 μ22 Q))))))) ∧ ((¬ r17 = v6) → w_X0_steady_96 S P35 v1 v2 v3 v4 v5 v6 μ16 Q))))))))
def w_X0_steady_35 (S : XS) (v1 : Int32) (v2 : Int32) (v3 : Int32) (v4 : Int32) (v5 : Int32) (v6 : Int32) (μ : WS) (Q : Int32 → WS → Prop) : Prop := ∀ P35 : Int32 → Int32 → Int32 → Int32 → Int32 → Int32 → WS → Prop, (∀ (v1 : Int32) (v2 : Int32) (v3 : Int32) (v4 : Int32) (v5 : Int32) (v6 : Int32) (μ : WS), w_X0_steady_35b S  P35 v1 v2 v3 v4 v5 v6 μ Q → P35 v1 v2 v3 v4 v5 v6 μ) → P35 v1 v2 v3 v4 v5 v6 μ
def w_X0_steady (S : XS) (v1 : Int32) (v2 : Int32) (v3 : Int32) (μ : WS) (Q : Int32 → WS → Prop) : Prop := (w_X0_isHand S v1 μ (fun r2 μ1 => ((r2 = 0) → Q (-1) μ1) ∧ ((¬ r2 = 0) → (w_X0_isHeat S v2 μ1 (fun r5 μ4 => ((r5 = 0) → Q (-1) μ4) ∧ ((¬ r5 = 0) → (w_X0_isIn S v3 0 1 μ4 (fun r8 μ7 => ((¬ r8 = 0) → w_X0_steady_35 S v1 v2 v3 0 (-1) 0 μ7 Q) ∧ ((r8 = 0) → Q (-1) μ7)))))))))
abbrev rm_X0_steady : Room := { frames := 1703, cells := 0, slots := 0, locals := 51083 }
theorem mf_X0_steady : MFact yX0_steady 3 rm_X0_steady := ⟨by decide +kernel, rfl, rfl⟩
set_option maxHeartbeats 4000000 in
theorem met_X0_steady (l : Launch) (D : va_G) (ac : Nat → ClassId) (ad : Nat → Nat) (S : XS) (hLay : LayOk ad (knX S)) (v1 : Int32) (v2 : Int32) (v3 : Int32) (μ : WS) (Q : Int32 → WS → Prop) (h : w_X0_steady S v1 v2 v3 μ Q) : CMet l yX0_steady cX0_steady 7 (some .int) rm_X0_steady D ac ad (knX S) (ExX D ac ad S) [.ref (ad 0), .int v1, .int v2, .int v3] μ (qI Q) := by
  refine vv_met (lv := [(0, .ref (ad 0)), (1, .int v1), (2, .int v2), (3, .int v3)]) (by decide) hLay exX_ok (Nat.le_of_ble_eq_true rfl) rfl ⟨rfl, rfl⟩ (fun C hC hK hRm hLl hR hM => ?_)
  subst hLl
  have hRo : RoomOk (HPW D ac ad (knX S) (ExX D ac ad S) (vS C)) (vR C) := HPW.room
  have L96 : ∀ (P35 : Int32 → Int32 → Int32 → Int32 → Int32 → Int32 → WS → Prop) (h35 : ∀ (v1 : Int32) (v2 : Int32) (v3 : Int32) (v4 : Int32) (v5 : Int32) (v6 : Int32) (μ : WS), P35 v1 v2 v3 v4 v5 v6 μ → VV C 7 (HPW D ac ad (knX S) (ExX D ac ad S) (vS C)) (vQ C (QcW D ac ad (knX S) (qI Q)) 0 0 (inLay ad (knX S))) (μ, ()) 35 [(0, .ref (ad 0)), (1, .int v1), (2, .int v2), (3, .int v3), (4, .int v4), (5, .int v5), (6, .int v6)] []) (v1 : Int32) (v2 : Int32) (v3 : Int32) (v4 : Int32) (v5 : Int32) (v6 : Int32) (μ : WS), w_X0_steady_96 S P35 v1 v2 v3 v4 v5 v6 μ Q → VV C 7 (HPW D ac ad (knX S) (ExX D ac ad S) (vS C)) (vQ C (QcW D ac ad (knX S) (qI Q)) 0 0 (inLay ad (knX S))) (μ, ()) 96 [(0, .ref (ad 0)), (1, .int v1), (2, .int v2), (3, .int v3), (4, .int v4), (5, .int v5), (6, .int v6)] [] := by
    intro P35 h35 v1 v2 v3 v4 v5 v6 μ h
    unfold w_X0_steady_96 at h
    refine vv_iinc (pl := 6) (v := v6 + 1) (lv' := [(6, .int (v6 + 1)), (0, .ref (ad 0)), (1, .int v1), (2, .int v2), (3, .int v3), (4, .int v4), (5, .int v5)]) hC dX0_steady_96 rfl rfl (by decide) rfl ?_
    refine vv_goto (tgt := 35) hC dX0_steady_99 rfl ?_
    refine vv_lv [1, 2, 3, 4, 5, 6, 0] rfl ?_
    exact h35 _ _ _ _ _ _ _ h
  have L94 : ∀ (P35 : Int32 → Int32 → Int32 → Int32 → Int32 → Int32 → WS → Prop) (h35 : ∀ (v1 : Int32) (v2 : Int32) (v3 : Int32) (v4 : Int32) (v5 : Int32) (v6 : Int32) (μ : WS), P35 v1 v2 v3 v4 v5 v6 μ → VV C 7 (HPW D ac ad (knX S) (ExX D ac ad S) (vS C)) (vQ C (QcW D ac ad (knX S) (qI Q)) 0 0 (inLay ad (knX S))) (μ, ()) 35 [(0, .ref (ad 0)), (1, .int v1), (2, .int v2), (3, .int v3), (4, .int v4), (5, .int v5), (6, .int v6)] []) (s0 : Int32) (v1 : Int32) (v2 : Int32) (v3 : Int32) (v4 : Int32) (v6 : Int32) (μ : WS), w_X0_steady_94 S P35 s0 v1 v2 v3 v4 v6 μ Q → VV C 7 (HPW D ac ad (knX S) (ExX D ac ad S) (vS C)) (vQ C (QcW D ac ad (knX S) (qI Q)) 0 0 (inLay ad (knX S))) (μ, ()) 94 [(0, .ref (ad 0)), (1, .int v1), (2, .int v2), (3, .int v3), (4, .int v4), (6, .int v6)] [.int s0] := by
    intro P35 h35 s0 v1 v2 v3 v4 v6 μ h
    unfold w_X0_steady_94 at h
    refine vv_istore (lv' := [(5, .int s0), (0, .ref (ad 0)), (1, .int v1), (2, .int v2), (3, .int v3), (4, .int v4), (6, .int v6)]) hC dX0_steady_94 (by decide) rfl ?_
    refine vv_lv [1, 2, 3, 4, 5, 0, 6] rfl ?_
    exact L96 _ h35 _ _ _ _ _ _ _ h
  have L87 : ∀ (P35 : Int32 → Int32 → Int32 → Int32 → Int32 → Int32 → WS → Prop) (h35 : ∀ (v1 : Int32) (v2 : Int32) (v3 : Int32) (v4 : Int32) (v5 : Int32) (v6 : Int32) (μ : WS), P35 v1 v2 v3 v4 v5 v6 μ → VV C 7 (HPW D ac ad (knX S) (ExX D ac ad S) (vS C)) (vQ C (QcW D ac ad (knX S) (qI Q)) 0 0 (inLay ad (knX S))) (μ, ()) 35 [(0, .ref (ad 0)), (1, .int v1), (2, .int v2), (3, .int v3), (4, .int v4), (5, .int v5), (6, .int v6)] []) (v1 : Int32) (v2 : Int32) (v3 : Int32) (v4 : Int32) (v6 : Int32) (μ : WS), w_X0_steady_87 S P35 v1 v2 v3 v4 v6 μ Q → VV C 7 (HPW D ac ad (knX S) (ExX D ac ad S) (vS C)) (vQ C (QcW D ac ad (knX S) (qI Q)) 0 0 (inLay ad (knX S))) (μ, ()) 87 [(0, .ref (ad 0)), (1, .int v1), (2, .int v2), (3, .int v3), (4, .int v4), (6, .int v6)] [] := by
    intro P35 h35 v1 v2 v3 v4 v6 μ h
    unfold w_X0_steady_87 at h
    refine vv_iload hC dX0_steady_87 5 rfl ?_
    refine vv_goto (tgt := 94) hC dX0_steady_89 rfl ?_
    exact L94 _ h35 _ _ _ _ _ _ _ h
  have L35 : ∀ (v1 : Int32) (v2 : Int32) (v3 : Int32) (v4 : Int32) (v5 : Int32) (v6 : Int32) (μ : WS), w_X0_steady_35 S  v1 v2 v3 v4 v5 v6 μ Q → VV C 7 (HPW D ac ad (knX S) (ExX D ac ad S) (vS C)) (vQ C (QcW D ac ad (knX S) (qI Q)) 0 0 (inLay ad (knX S))) (μ, ()) 35 [(0, .ref (ad 0)), (1, .int v1), (2, .int v2), (3, .int v3), (4, .int v4), (5, .int v5), (6, .int v6)] [] := by
    intro  v1 v2 v3 v4 v5 v6 μ h
    refine h (fun v1 v2 v3 v4 v5 v6 μ => VV C 7 (HPW D ac ad (knX S) (ExX D ac ad S) (vS C)) (vQ C (QcW D ac ad (knX S) (qI Q)) 0 0 (inLay ad (knX S))) (μ, ()) 35 [(0, .ref (ad 0)), (1, .int v1), (2, .int v2), (3, .int v3), (4, .int v4), (5, .int v5), (6, .int v6)] []) ?_
    clear h; intro v1 v2 v3 v4 v5 v6 μ h
    have h35 : ∀ (v1 : Int32) (v2 : Int32) (v3 : Int32) (v4 : Int32) (v5 : Int32) (v6 : Int32) (μ : WS), (fun v1 v2 v3 v4 v5 v6 (μ : WS) => VV C 7 (HPW D ac ad (knX S) (ExX D ac ad S) (vS C)) (vQ C (QcW D ac ad (knX S) (qI Q)) 0 0 (inLay ad (knX S))) (μ, ()) 35 [(0, .ref (ad 0)), (1, .int v1), (2, .int v2), (3, .int v3), (4, .int v4), (5, .int v5), (6, .int v6)] []) v1 v2 v3 v4 v5 v6 μ → VV C 7 (HPW D ac ad (knX S) (ExX D ac ad S) (vS C)) (vQ C (QcW D ac ad (knX S) (qI Q)) 0 0 (inLay ad (knX S))) (μ, ()) 35 [(0, .ref (ad 0)), (1, .int v1), (2, .int v2), (3, .int v3), (4, .int v4), (5, .int v5), (6, .int v6)] [] := fun _ _ _ _ _ _ _ h => h
    unfold w_X0_steady_35b at h
    refine vv_iload hC dX0_steady_35 6 rfl ?_
    refine vv_aload_n hC dX0_steady_37 rfl 0 rfl ?_
    refine vv_callVi hC hR hK hRo hRm [] [.int v6] (met_X0_rows (vL C) D ac ad S hLay  μ _ h) gxX0_157 mf_X0_rows rfl (lx_0 S) rfl rfl rfl rfl dX0_steady_38 (fun r11 μ10 h => ?_)
    refine vv_icmp_ge (tgt := 102) hC dX0_steady_41 rfl (fun c12 => ?_) (fun c12 => ?_)
    · replace h := h.1 c12
      refine vv_iload_n hC dX0_steady_102 rfl 3 rfl ?_
      refine vv_if_ne (tgt := 111) hC dX0_steady_103 rfl (fun c13 => ?_) (fun c13 => ?_)
      · replace h := h.1 c13
        refine vv_iload hC dX0_steady_111 5 rfl ?_
        exact vv_iret hC hM dX0_steady_113 h
      · replace h := h.2 c13
        refine vv_iload hC dX0_steady_106 4 rfl ?_
        refine vv_goto (tgt := 113) hC dX0_steady_108 rfl ?_
        exact vv_iret hC hM dX0_steady_113 h
    · replace h := h.2 c12
      refine vv_aload_n hC dX0_steady_44 rfl 0 rfl ?_
      refine vv_aload_n hC dX0_steady_45 rfl 0 rfl ?_
      refine vv_iload hC dX0_steady_46 6 rfl ?_
      refine vv_iload_n hC dX0_steady_48 rfl 1 rfl ?_
      refine vv_iload_n hC dX0_steady_49 rfl 2 rfl ?_
      refine vv_callVi hC hR hK hRo hRm [.int v6, .int v1, .int v2] [.ref (ad 0)] (met_X0_castOf (vL C) D ac ad S hLay v6 v1 v2 μ10 _ h) gxX0_236 mf_X0_castOf rfl (lx_0 S) rfl rfl rfl rfl dX0_steady_50 (fun r15 μ14 h => ?_)
      refine vv_iload_n hC dX0_steady_53 rfl 1 rfl ?_
      refine vv_iload_n hC dX0_steady_54 rfl 2 rfl ?_
      refine vv_callVi hC hR hK hRo hRm [.int r15, .int v1, .int v2] [] (met_X0_castOf (vL C) D ac ad S hLay r15 v1 v2 μ14 _ h) gxX0_236 mf_X0_castOf rfl (lx_0 S) rfl rfl rfl rfl dX0_steady_55 (fun r17 μ16 h => ?_)
      refine vv_iload hC dX0_steady_58 6 rfl ?_
      refine vv_icmp_eq (tgt := 66) hC dX0_steady_60 rfl (fun c18 => ?_) (fun c18 => ?_)
      · replace h := h.1 c18
        refine vv_iinc (pl := 4) (v := v4 + 1) (lv' := [(4, .int (v4 + 1)), (0, .ref (ad 0)), (1, .int v1), (2, .int v2), (3, .int v3), (5, .int v5), (6, .int v6)]) hC dX0_steady_66 rfl rfl (by decide) rfl ?_
        refine vv_iload hC dX0_steady_69 5 rfl ?_
        refine vv_if_lt (tgt := 87) hC dX0_steady_71 rfl (fun c19 => ?_) (fun c19 => ?_)
        · replace h := h.1 c19
          refine vv_lv [1, 2, 3, 4, 0, 6] rfl ?_
          exact L87 _ h35 _ _ _ _ _ _ h
        · replace h := h.2 c19
          refine vv_iload hC dX0_steady_74 6 rfl ?_
          refine vv_callSi hC hR hK hRo hRm [.int v6] [] (met_J15_bitCount (vL C) D ac ad S hLay v6 μ16 _ h) gxX0_240 mf_J15_bitCount rfl rfl rfl dX0_steady_76 (fun r21 μ20 h => ?_)
          refine vv_iload hC dX0_steady_79 5 rfl ?_
          refine vv_callSi hC hR hK hRo hRm [.int v5] [.int r21] (met_J15_bitCount (vL C) D ac ad S hLay v5 μ20 _ h) gxX0_240 mf_J15_bitCount rfl rfl rfl dX0_steady_81 (fun r23 μ22 h => ?_)
          refine vv_icmp_le (tgt := 92) hC dX0_steady_84 rfl (fun c24 => ?_) (fun c24 => ?_)
          · replace h := h.1 c24
            refine vv_iload hC dX0_steady_92 5 rfl ?_
            refine vv_lv [1, 2, 3, 4, 0, 6] rfl ?_
            exact L94 _ h35 _ _ _ _ _ _ _ h
          · replace h := h.2 c24
            refine vv_lv [1, 2, 3, 4, 0, 6] rfl ?_
            exact L87 _ h35 _ _ _ _ _ _ h
      · replace h := h.2 c18
        refine vv_goto (tgt := 96) hC dX0_steady_63 rfl ?_
        exact L96 _ h35 _ _ _ _ _ _ _ h
  unfold w_X0_steady at h
  refine vv_aload_n hC dX0_steady_0 rfl 0 rfl ?_
  refine vv_iload_n hC dX0_steady_1 rfl 1 rfl ?_
  refine vv_callVi hC hR hK hRo hRm [.int v1] [] (met_X0_isHand (vL C) D ac ad S hLay v1 μ _ h) gxX0_204 mf_X0_isHand rfl (lx_0 S) rfl rfl rfl rfl dX0_steady_2 (fun r2 μ1 h => ?_)
  refine vv_if_eq (tgt := 24) hC dX0_steady_5 rfl (fun c3 => ?_) (fun c3 => ?_)
  · replace h := h.1 c3
    refine vv_iconst hC dX0_steady_24 xic_m1 ?_
    exact vv_iret hC hM dX0_steady_25 h
  · replace h := h.2 c3
    refine vv_iload_n hC dX0_steady_8 rfl 2 rfl ?_
    refine vv_callSi hC hR hK hRo hRm [.int v2] [] (met_X0_isHeat (vL C) D ac ad S hLay v2 μ1 _ h) gxX0_207 mf_X0_isHeat rfl rfl rfl dX0_steady_9 (fun r5 μ4 h => ?_)
    refine vv_if_eq (tgt := 24) hC dX0_steady_12 rfl (fun c6 => ?_) (fun c6 => ?_)
    · replace h := h.1 c6
      refine vv_iconst hC dX0_steady_24 xic_m1 ?_
      exact vv_iret hC hM dX0_steady_25 h
    · replace h := h.2 c6
      refine vv_iload_n hC dX0_steady_15 rfl 3 rfl ?_
      refine vv_iconst hC dX0_steady_16 xic_0 ?_
      refine vv_iconst hC dX0_steady_17 xic_1 ?_
      refine vv_callSi hC hR hK hRo hRm [.int v3, .int 0, .int 1] [] (met_X0_isIn (vL C) D ac ad S hLay v3 0 1 μ4 _ h) gxX0_150 mf_X0_isIn rfl rfl rfl dX0_steady_18 (fun r8 μ7 h => ?_)
      refine vv_if_ne (tgt := 26) hC dX0_steady_21 rfl (fun c9 => ?_) (fun c9 => ?_)
      · replace h := h.1 c9
        refine vv_iconst hC dX0_steady_26 xic_0 ?_
        refine vv_istore (lv' := [(4, .int 0), (0, .ref (ad 0)), (1, .int v1), (2, .int v2), (3, .int v3)]) hC dX0_steady_27 (by decide) rfl ?_
        refine vv_iconst hC dX0_steady_29 xic_m1 ?_
        refine vv_istore (lv' := [(5, .int (-1)), (4, .int 0), (0, .ref (ad 0)), (1, .int v1), (2, .int v2), (3, .int v3)]) hC dX0_steady_30 (by decide) rfl ?_
        refine vv_iconst hC dX0_steady_32 xic_0 ?_
        refine vv_istore (lv' := [(6, .int 0), (5, .int (-1)), (4, .int 0), (0, .ref (ad 0)), (1, .int v1), (2, .int v2), (3, .int v3)]) hC dX0_steady_33 (by decide) rfl ?_
        refine vv_lv [3, 4, 5, 6, 2, 1, 0] rfl ?_
        exact L35  _ _ _ _ _ _ _ h
      · replace h := h.2 c9
        refine vv_iconst hC dX0_steady_24 xic_m1 ?_
        exact vv_iret hC hM dX0_steady_25 h
def w_X0_against_66 (S : XS) (P31 : Int32 → Int32 → Int32 → Int32 → Int32 → WS → Prop) (s0 : Int32) (s1 : Int32) (v1 : Int32) (v2 : Int32) (v3 : Int32) (v5 : Int32) (μ : WS) (Q : Int32 → WS → Prop) : Prop := (∀ x18 : Int32, x18 = s1 + s0 → P31 v1 v2 v3 x18 (v5 + 1) μ)
def w_X0_against_31b (S : XS) (P31 : Int32 → Int32 → Int32 → Int32 → Int32 → WS → Prop) (v1 : Int32) (v2 : Int32) (v3 : Int32) (v4 : Int32) (v5 : Int32) (μ : WS) (Q : Int32 → WS → Prop) : Prop := (w_X0_rows S μ (fun r11 μ10 => ((r11 ≤ v5) → Q v4 μ10) ∧ ((¬ r11 ≤ v5) → (w_X0_castOf S v5 v1 v3 μ10 (fun r14 μ13 => (w_X0_castOf S v5 v2 v3 μ13 (fun r16 μ15 => ((r14 = r16) → w_X0_against_66 S P31 0 v4 v1 v2 v3 v5 μ15 Q) ∧ ((¬ r14 = r16) → w_X0_against_66 S P31 1 v4 v1 v2 v3 v5 μ15 Q))))))))
def w_X0_against_31 (S : XS) (v1 : Int32) (v2 : Int32) (v3 : Int32) (v4 : Int32) (v5 : Int32) (μ : WS) (Q : Int32 → WS → Prop) : Prop := ∀ P31 : Int32 → Int32 → Int32 → Int32 → Int32 → WS → Prop, (∀ (v1 : Int32) (v2 : Int32) (v3 : Int32) (v4 : Int32) (v5 : Int32) (μ : WS), w_X0_against_31b S  P31 v1 v2 v3 v4 v5 μ Q → P31 v1 v2 v3 v4 v5 μ) → P31 v1 v2 v3 v4 v5 μ
def w_X0_against (S : XS) (v1 : Int32) (v2 : Int32) (v3 : Int32) (μ : WS) (Q : Int32 → WS → Prop) : Prop := (w_X0_isHand S v1 μ (fun r2 μ1 => ((r2 = 0) → Q (-1) μ1) ∧ ((¬ r2 = 0) → (w_X0_isHand S v2 μ1 (fun r5 μ4 => ((r5 = 0) → Q (-1) μ4) ∧ ((¬ r5 = 0) → (w_X0_isHeat S v3 μ4 (fun r8 μ7 => ((¬ r8 = 0) → w_X0_against_31 S v1 v2 v3 0 0 μ7 Q) ∧ ((r8 = 0) → Q (-1) μ7)))))))))
abbrev rm_X0_against : Room := { frames := 1703, cells := 0, slots := 0, locals := 51083 }
theorem mf_X0_against : MFact yX0_against 3 rm_X0_against := ⟨by decide +kernel, rfl, rfl⟩
set_option maxHeartbeats 4000000 in
theorem met_X0_against (l : Launch) (D : va_G) (ac : Nat → ClassId) (ad : Nat → Nat) (S : XS) (hLay : LayOk ad (knX S)) (v1 : Int32) (v2 : Int32) (v3 : Int32) (μ : WS) (Q : Int32 → WS → Prop) (h : w_X0_against S v1 v2 v3 μ Q) : CMet l yX0_against cX0_against 6 (some .int) rm_X0_against D ac ad (knX S) (ExX D ac ad S) [.ref (ad 0), .int v1, .int v2, .int v3] μ (qI Q) := by
  refine vv_met (lv := [(0, .ref (ad 0)), (1, .int v1), (2, .int v2), (3, .int v3)]) (by decide) hLay exX_ok (Nat.le_of_ble_eq_true rfl) rfl ⟨rfl, rfl⟩ (fun C hC hK hRm hLl hR hM => ?_)
  subst hLl
  have hRo : RoomOk (HPW D ac ad (knX S) (ExX D ac ad S) (vS C)) (vR C) := HPW.room
  have L66 : ∀ (P31 : Int32 → Int32 → Int32 → Int32 → Int32 → WS → Prop) (h31 : ∀ (v1 : Int32) (v2 : Int32) (v3 : Int32) (v4 : Int32) (v5 : Int32) (μ : WS), P31 v1 v2 v3 v4 v5 μ → VV C 6 (HPW D ac ad (knX S) (ExX D ac ad S) (vS C)) (vQ C (QcW D ac ad (knX S) (qI Q)) 0 0 (inLay ad (knX S))) (μ, ()) 31 [(0, .ref (ad 0)), (1, .int v1), (2, .int v2), (3, .int v3), (4, .int v4), (5, .int v5)] []) (s0 : Int32) (s1 : Int32) (v1 : Int32) (v2 : Int32) (v3 : Int32) (v5 : Int32) (μ : WS), w_X0_against_66 S P31 s0 s1 v1 v2 v3 v5 μ Q → VV C 6 (HPW D ac ad (knX S) (ExX D ac ad S) (vS C)) (vQ C (QcW D ac ad (knX S) (qI Q)) 0 0 (inLay ad (knX S))) (μ, ()) 66 [(0, .ref (ad 0)), (1, .int v1), (2, .int v2), (3, .int v3), (5, .int v5)] [.int s0, .int s1] := by
    intro P31 h31 s0 s1 v1 v2 v3 v5 μ h
    unfold w_X0_against_66 at h
    refine vv_iadd hC dX0_against_66 ?_
    refine vv_topi (fun x18 ex18 => ?_)
    replace h := h x18 ex18
    refine vv_istore (lv' := [(4, .int x18), (0, .ref (ad 0)), (1, .int v1), (2, .int v2), (3, .int v3), (5, .int v5)]) hC dX0_against_67 (by decide) rfl ?_
    refine vv_iinc (pl := 5) (v := v5 + 1) (lv' := [(5, .int (v5 + 1)), (4, .int x18), (0, .ref (ad 0)), (1, .int v1), (2, .int v2), (3, .int v3)]) hC dX0_against_69 rfl rfl (by decide) rfl ?_
    refine vv_goto (tgt := 31) hC dX0_against_72 rfl ?_
    refine vv_lv [2, 3, 4, 5, 1, 0] rfl ?_
    exact h31 _ _ _ _ _ _ h
  have L31 : ∀ (v1 : Int32) (v2 : Int32) (v3 : Int32) (v4 : Int32) (v5 : Int32) (μ : WS), w_X0_against_31 S  v1 v2 v3 v4 v5 μ Q → VV C 6 (HPW D ac ad (knX S) (ExX D ac ad S) (vS C)) (vQ C (QcW D ac ad (knX S) (qI Q)) 0 0 (inLay ad (knX S))) (μ, ()) 31 [(0, .ref (ad 0)), (1, .int v1), (2, .int v2), (3, .int v3), (4, .int v4), (5, .int v5)] [] := by
    intro  v1 v2 v3 v4 v5 μ h
    refine h (fun v1 v2 v3 v4 v5 μ => VV C 6 (HPW D ac ad (knX S) (ExX D ac ad S) (vS C)) (vQ C (QcW D ac ad (knX S) (qI Q)) 0 0 (inLay ad (knX S))) (μ, ()) 31 [(0, .ref (ad 0)), (1, .int v1), (2, .int v2), (3, .int v3), (4, .int v4), (5, .int v5)] []) ?_
    clear h; intro v1 v2 v3 v4 v5 μ h
    have h31 : ∀ (v1 : Int32) (v2 : Int32) (v3 : Int32) (v4 : Int32) (v5 : Int32) (μ : WS), (fun v1 v2 v3 v4 v5 (μ : WS) => VV C 6 (HPW D ac ad (knX S) (ExX D ac ad S) (vS C)) (vQ C (QcW D ac ad (knX S) (qI Q)) 0 0 (inLay ad (knX S))) (μ, ()) 31 [(0, .ref (ad 0)), (1, .int v1), (2, .int v2), (3, .int v3), (4, .int v4), (5, .int v5)] []) v1 v2 v3 v4 v5 μ → VV C 6 (HPW D ac ad (knX S) (ExX D ac ad S) (vS C)) (vQ C (QcW D ac ad (knX S) (qI Q)) 0 0 (inLay ad (knX S))) (μ, ()) 31 [(0, .ref (ad 0)), (1, .int v1), (2, .int v2), (3, .int v3), (4, .int v4), (5, .int v5)] [] := fun _ _ _ _ _ _ h => h
    unfold w_X0_against_31b at h
    refine vv_iload hC dX0_against_31 5 rfl ?_
    refine vv_aload_n hC dX0_against_33 rfl 0 rfl ?_
    refine vv_callVi hC hR hK hRo hRm [] [.int v5] (met_X0_rows (vL C) D ac ad S hLay  μ _ h) gxX0_157 mf_X0_rows rfl (lx_0 S) rfl rfl rfl rfl dX0_against_34 (fun r11 μ10 h => ?_)
    refine vv_icmp_ge (tgt := 75) hC dX0_against_37 rfl (fun c12 => ?_) (fun c12 => ?_)
    · replace h := h.1 c12
      refine vv_iload hC dX0_against_75 4 rfl ?_
      exact vv_iret hC hM dX0_against_77 h
    · replace h := h.2 c12
      refine vv_iload hC dX0_against_40 4 rfl ?_
      refine vv_aload_n hC dX0_against_42 rfl 0 rfl ?_
      refine vv_iload hC dX0_against_43 5 rfl ?_
      refine vv_iload_n hC dX0_against_45 rfl 1 rfl ?_
      refine vv_iload_n hC dX0_against_46 rfl 3 rfl ?_
      refine vv_callVi hC hR hK hRo hRm [.int v5, .int v1, .int v3] [.int v4] (met_X0_castOf (vL C) D ac ad S hLay v5 v1 v3 μ10 _ h) gxX0_236 mf_X0_castOf rfl (lx_0 S) rfl rfl rfl rfl dX0_against_47 (fun r14 μ13 h => ?_)
      refine vv_aload_n hC dX0_against_50 rfl 0 rfl ?_
      refine vv_iload hC dX0_against_51 5 rfl ?_
      refine vv_iload_n hC dX0_against_53 rfl 2 rfl ?_
      refine vv_iload_n hC dX0_against_54 rfl 3 rfl ?_
      refine vv_callVi hC hR hK hRo hRm [.int v5, .int v2, .int v3] [.int r14, .int v4] (met_X0_castOf (vL C) D ac ad S hLay v5 v2 v3 μ13 _ h) gxX0_236 mf_X0_castOf rfl (lx_0 S) rfl rfl rfl rfl dX0_against_55 (fun r16 μ15 h => ?_)
      refine vv_icmp_eq (tgt := 65) hC dX0_against_58 rfl (fun c17 => ?_) (fun c17 => ?_)
      · replace h := h.1 c17
        refine vv_iconst hC dX0_against_65 xic_0 ?_
        refine vv_lv [0, 1, 2, 3, 5] rfl ?_
        exact L66 _ h31 _ _ _ _ _ _ _ h
      · replace h := h.2 c17
        refine vv_iconst hC dX0_against_61 xic_1 ?_
        refine vv_goto (tgt := 66) hC dX0_against_62 rfl ?_
        refine vv_lv [0, 1, 2, 3, 5] rfl ?_
        exact L66 _ h31 _ _ _ _ _ _ _ h
  unfold w_X0_against at h
  refine vv_aload_n hC dX0_against_0 rfl 0 rfl ?_
  refine vv_iload_n hC dX0_against_1 rfl 1 rfl ?_
  refine vv_callVi hC hR hK hRo hRm [.int v1] [] (met_X0_isHand (vL C) D ac ad S hLay v1 μ _ h) gxX0_204 mf_X0_isHand rfl (lx_0 S) rfl rfl rfl rfl dX0_against_2 (fun r2 μ1 h => ?_)
  refine vv_if_eq (tgt := 23) hC dX0_against_5 rfl (fun c3 => ?_) (fun c3 => ?_)
  · replace h := h.1 c3
    refine vv_iconst hC dX0_against_23 xic_m1 ?_
    exact vv_iret hC hM dX0_against_24 h
  · replace h := h.2 c3
    refine vv_aload_n hC dX0_against_8 rfl 0 rfl ?_
    refine vv_iload_n hC dX0_against_9 rfl 2 rfl ?_
    refine vv_callVi hC hR hK hRo hRm [.int v2] [] (met_X0_isHand (vL C) D ac ad S hLay v2 μ1 _ h) gxX0_204 mf_X0_isHand rfl (lx_0 S) rfl rfl rfl rfl dX0_against_10 (fun r5 μ4 h => ?_)
    refine vv_if_eq (tgt := 23) hC dX0_against_13 rfl (fun c6 => ?_) (fun c6 => ?_)
    · replace h := h.1 c6
      refine vv_iconst hC dX0_against_23 xic_m1 ?_
      exact vv_iret hC hM dX0_against_24 h
    · replace h := h.2 c6
      refine vv_iload_n hC dX0_against_16 rfl 3 rfl ?_
      refine vv_callSi hC hR hK hRo hRm [.int v3] [] (met_X0_isHeat (vL C) D ac ad S hLay v3 μ4 _ h) gxX0_207 mf_X0_isHeat rfl rfl rfl dX0_against_17 (fun r8 μ7 h => ?_)
      refine vv_if_ne (tgt := 25) hC dX0_against_20 rfl (fun c9 => ?_) (fun c9 => ?_)
      · replace h := h.1 c9
        refine vv_iconst hC dX0_against_25 xic_0 ?_
        refine vv_istore (lv' := [(4, .int 0), (0, .ref (ad 0)), (1, .int v1), (2, .int v2), (3, .int v3)]) hC dX0_against_26 (by decide) rfl ?_
        refine vv_iconst hC dX0_against_28 xic_0 ?_
        refine vv_istore (lv' := [(5, .int 0), (4, .int 0), (0, .ref (ad 0)), (1, .int v1), (2, .int v2), (3, .int v3)]) hC dX0_against_29 (by decide) rfl ?_
        refine vv_lv [2, 3, 4, 5, 1, 0] rfl ?_
        exact L31  _ _ _ _ _ _ h
      · replace h := h.2 c9
        refine vv_iconst hC dX0_against_23 xic_m1 ?_
        exact vv_iret hC hM dX0_against_24 h
def w_X0_layLeast_137b (S : XS) (P97 : Int32 → Int32 → WS → Prop) (P105 : Int32 → Int32 → Int32 → WS → Prop) (P137 : Int32 → Int32 → Int32 → Int32 → WS → Prop) (v2 : Int32) (v3 : Int32) (v4 : Int32) (v5 : Int32) (μ : WS) (Q : WS → Prop) : Prop := ((v2 ≤ v5) → P105 v2 v3 (v4 + 1) μ) ∧ ((¬ v2 ≤ v5) → (vp_in v3 5 ∧ ((μ.2.2 119 v3.toNatClampNeg = some (2100 + v3.toNatClampNeg)) ∧ (vp_in v3 5 ∧ ((μ.2.2 119 v3.toNatClampNeg = some (2100 + v3.toNatClampNeg)) ∧ (vp_in v4 4096 ∧ (vp_in (v3 - 1) 5 ∧ ((μ.2.2 119 (v3 - 1).toNatClampNeg = some (2100 + (v3 - 1).toNatClampNeg)) ∧ (vp_in v5 16 ∧ ((μ.2.2 118 v5.toNatClampNeg = some (2000 + v5.toNatClampNeg)) ∧ (vp_in v4 4096 ∧ (vp_in (μ.1 (2000 + v5.toNatClampNeg) v4.toNatClampNeg) 4096 ∧ (vp_in v4 4096 ∧ (∀ μ22 : WS, μ22 = wset μ (2100 + v3.toNatClampNeg) v4.toNatClampNeg (if (1 + (v5 - v5 / 4 * 4)) + (μ.1 (2100 + (v3 - 1).toNatClampNeg) (μ.1 (2000 + v5.toNatClampNeg) v4.toNatClampNeg).toNatClampNeg) < μ.1 (2100 + v3.toNatClampNeg) v4.toNatClampNeg then (1 + (v5 - v5 / 4 * 4)) + (μ.1 (2100 + (v3 - 1).toNatClampNeg) (μ.1 (2000 + v5.toNatClampNeg) v4.toNatClampNeg).toNatClampNeg) else μ.1 (2100 + v3.toNatClampNeg) v4.toNatClampNeg) → P137 v2 v3 v4 (v5 + 1) μ22))))))))))))))
def w_X0_layLeast_137 (S : XS) (P97 : Int32 → Int32 → WS → Prop) (P105 : Int32 → Int32 → Int32 → WS → Prop) (v2 : Int32) (v3 : Int32) (v4 : Int32) (v5 : Int32) (μ : WS) (Q : WS → Prop) : Prop := ∀ P137 : Int32 → Int32 → Int32 → Int32 → WS → Prop, (∀ (v2 : Int32) (v3 : Int32) (v4 : Int32) (v5 : Int32) (μ : WS), w_X0_layLeast_137b S P97 P105 P137 v2 v3 v4 v5 μ Q → P137 v2 v3 v4 v5 μ) → P137 v2 v3 v4 v5 μ
def w_X0_layLeast_105b (S : XS) (P97 : Int32 → Int32 → WS → Prop) (P105 : Int32 → Int32 → Int32 → WS → Prop) (v2 : Int32) (v3 : Int32) (v4 : Int32) (μ : WS) (Q : WS → Prop) : Prop := (w_X0_rows S μ (fun r18 μ17 => ((r18 ≤ v4) → P97 v2 (v3 + 1) μ17) ∧ ((¬ r18 ≤ v4) → (vp_in v3 5 ∧ ((μ17.2.2 119 v3.toNatClampNeg = some (2100 + v3.toNatClampNeg)) ∧ (vp_in (v3 - 1) 5 ∧ ((μ17.2.2 119 (v3 - 1).toNatClampNeg = some (2100 + (v3 - 1).toNatClampNeg)) ∧ (vp_in v4 4096 ∧ (vp_in v4 4096 ∧ (∀ μ20 : WS, μ20 = wset μ17 (2100 + v3.toNatClampNeg) v4.toNatClampNeg (μ17.1 (2100 + (v3 - 1).toNatClampNeg) v4.toNatClampNeg) → w_X0_layLeast_137 S P97 P105 v2 v3 v4 0 μ20 Q))))))))))
def w_X0_layLeast_105 (S : XS) (P97 : Int32 → Int32 → WS → Prop) (v2 : Int32) (v3 : Int32) (v4 : Int32) (μ : WS) (Q : WS → Prop) : Prop := ∀ P105 : Int32 → Int32 → Int32 → WS → Prop, (∀ (v2 : Int32) (v3 : Int32) (v4 : Int32) (μ : WS), w_X0_layLeast_105b S P97 P105 v2 v3 v4 μ Q → P105 v2 v3 v4 μ) → P105 v2 v3 v4 μ
def w_X0_layLeast_97b (S : XS) (P97 : Int32 → Int32 → WS → Prop) (v2 : Int32) (v3 : Int32) (μ : WS) (Q : WS → Prop) : Prop := ((4 < v3) → Q μ) ∧ ((¬ 4 < v3) → w_X0_layLeast_105 S P97 v2 v3 0 μ Q)
def w_X0_layLeast_97 (S : XS) (v2 : Int32) (v3 : Int32) (μ : WS) (Q : WS → Prop) : Prop := ∀ P97 : Int32 → Int32 → WS → Prop, (∀ (v2 : Int32) (v3 : Int32) (μ : WS), w_X0_layLeast_97b S  P97 v2 v3 μ Q → P97 v2 v3 μ) → P97 v2 v3 μ
def w_X0_layLeast_88 (S : XS) (P61 : Int32 → Int32 → Int32 → WS → Prop) (s0 : Int32) (s1 : Int32) (v1 : Int32) (v2 : Int32) (v3 : Int32) (μ : WS) (Q : WS → Prop) : Prop := (vp_in s1 4096 ∧ (∀ μ15 : WS, μ15 = wset μ 2100 s1.toNatClampNeg s0 → P61 v1 v2 (v3 + 1) μ15))
def w_X0_layLeast_61b (S : XS) (P61 : Int32 → Int32 → Int32 → WS → Prop) (v1 : Int32) (v2 : Int32) (v3 : Int32) (μ : WS) (Q : WS → Prop) : Prop := (w_X0_rows S μ (fun r12 μ11 => ((r12 ≤ v3) → w_X0_layLeast_97 S v2 1 μ11 Q) ∧ ((¬ r12 ≤ v3) → ((μ11.2.2 119 0 = some (2100)) ∧ ((¬ v3 = v1) → w_X0_layLeast_88 S P61 1000000 v3 v1 v2 v3 μ11 Q) ∧ ((v3 = v1) → w_X0_layLeast_88 S P61 0 v3 v1 v2 v3 μ11 Q)))))
def w_X0_layLeast_61 (S : XS) (v1 : Int32) (v2 : Int32) (v3 : Int32) (μ : WS) (Q : WS → Prop) : Prop := ∀ P61 : Int32 → Int32 → Int32 → WS → Prop, (∀ (v1 : Int32) (v2 : Int32) (v3 : Int32) (μ : WS), w_X0_layLeast_61b S  P61 v1 v2 v3 μ Q → P61 v1 v2 v3 μ) → P61 v1 v2 v3 μ
def w_X0_layLeast_17b (S : XS) (P9 : Int32 → Int32 → Int32 → WS → Prop) (P17 : Int32 → Int32 → Int32 → Int32 → WS → Prop) (v1 : Int32) (v2 : Int32) (v3 : Int32) (v4 : Int32) (μ : WS) (Q : WS → Prop) : Prop := (w_X0_rows S μ (fun r6 μ5 => ((r6 ≤ v4) → P9 v1 v2 (v3 + 1) μ5) ∧ ((¬ r6 ≤ v4) → (vp_in v3 16 ∧ ((μ5.2.2 118 v3.toNatClampNeg = some (2000 + v3.toNatClampNeg)) ∧ (w_X0_castOf S v4 (v3 / 4) (v3 - v3 / 4 * 4) μ5 (fun r9 μ8 => (vp_in v4 4096 ∧ (∀ μ10 : WS, μ10 = wset μ8 (2000 + v3.toNatClampNeg) v4.toNatClampNeg r9 → P17 v1 v2 v3 (v4 + 1) μ10)))))))))
def w_X0_layLeast_17 (S : XS) (P9 : Int32 → Int32 → Int32 → WS → Prop) (v1 : Int32) (v2 : Int32) (v3 : Int32) (v4 : Int32) (μ : WS) (Q : WS → Prop) : Prop := ∀ P17 : Int32 → Int32 → Int32 → Int32 → WS → Prop, (∀ (v1 : Int32) (v2 : Int32) (v3 : Int32) (v4 : Int32) (μ : WS), w_X0_layLeast_17b S P9 P17 v1 v2 v3 v4 μ Q → P17 v1 v2 v3 v4 μ) → P17 v1 v2 v3 v4 μ
def w_X0_layLeast_9b (S : XS) (P9 : Int32 → Int32 → Int32 → WS → Prop) (v1 : Int32) (v2 : Int32) (v3 : Int32) (μ : WS) (Q : WS → Prop) : Prop := ((v2 ≤ v3) → w_X0_layLeast_61 S v1 v2 0 μ Q) ∧ ((¬ v2 ≤ v3) → w_X0_layLeast_17 S P9 v1 v2 v3 0 μ Q)
def w_X0_layLeast_9 (S : XS) (v1 : Int32) (v2 : Int32) (v3 : Int32) (μ : WS) (Q : WS → Prop) : Prop := ∀ P9 : Int32 → Int32 → Int32 → WS → Prop, (∀ (v1 : Int32) (v2 : Int32) (v3 : Int32) (μ : WS), w_X0_layLeast_9b S  P9 v1 v2 v3 μ Q → P9 v1 v2 v3 μ) → P9 v1 v2 v3 μ
def w_X0_layLeast (S : XS) (v1 : Int32) (μ : WS) (Q : WS → Prop) : Prop := (w_X0_hands S μ (fun r2 μ1 => (∀ x3 : Int32, x3 = r2 * 4 → w_X0_layLeast_9 S v1 x3 0 μ1 Q)))
abbrev rm_X0_layLeast : Room := { frames := 1703, cells := 0, slots := 0, locals := 51083 }
theorem mf_X0_layLeast : MFact yX0_layLeast 1 rm_X0_layLeast := ⟨by decide +kernel, rfl, rfl⟩
set_option maxHeartbeats 4000000 in
theorem met_X0_layLeast (l : Launch) (D : va_G) (ac : Nat → ClassId) (ad : Nat → Nat) (S : XS) (hLay : LayOk ad (knX S)) (v1 : Int32) (μ : WS) (Q : WS → Prop) (h : w_X0_layLeast S v1 μ Q) : CMet l yX0_layLeast cX0_layLeast 6 none rm_X0_layLeast D ac ad (knX S) (ExX D ac ad S) [.ref (ad 0), .int v1] μ (qV Q) := by
  refine vv_met (lv := [(0, .ref (ad 0)), (1, .int v1)]) (by decide) hLay exX_ok (Nat.le_of_ble_eq_true rfl) rfl ⟨rfl, rfl⟩ (fun C hC hK hRm hLl hR hM => ?_)
  subst hLl
  have hRo : RoomOk (HPW D ac ad (knX S) (ExX D ac ad S) (vS C)) (vR C) := HPW.room
  have L137 : ∀ (P97 : Int32 → Int32 → WS → Prop) (h97 : ∀ (v2 : Int32) (v3 : Int32) (μ : WS), P97 v2 v3 μ → VV C 6 (HPW D ac ad (knX S) (ExX D ac ad S) (vS C)) (vQ C (QcW D ac ad (knX S) (qV Q)) 0 0 (inLay ad (knX S))) (μ, ()) 97 [(0, .ref (ad 0)), (2, .int v2), (3, .int v3)] []) (P105 : Int32 → Int32 → Int32 → WS → Prop) (h105 : ∀ (v2 : Int32) (v3 : Int32) (v4 : Int32) (μ : WS), P105 v2 v3 v4 μ → VV C 6 (HPW D ac ad (knX S) (ExX D ac ad S) (vS C)) (vQ C (QcW D ac ad (knX S) (qV Q)) 0 0 (inLay ad (knX S))) (μ, ()) 105 [(0, .ref (ad 0)), (2, .int v2), (3, .int v3), (4, .int v4)] []) (v2 : Int32) (v3 : Int32) (v4 : Int32) (v5 : Int32) (μ : WS), w_X0_layLeast_137 S P97 P105 v2 v3 v4 v5 μ Q → VV C 6 (HPW D ac ad (knX S) (ExX D ac ad S) (vS C)) (vQ C (QcW D ac ad (knX S) (qV Q)) 0 0 (inLay ad (knX S))) (μ, ()) 137 [(0, .ref (ad 0)), (2, .int v2), (3, .int v3), (4, .int v4), (5, .int v5)] [] := by
    intro P97 h97 P105 h105 v2 v3 v4 v5 μ h
    refine h (fun v2 v3 v4 v5 μ => VV C 6 (HPW D ac ad (knX S) (ExX D ac ad S) (vS C)) (vQ C (QcW D ac ad (knX S) (qV Q)) 0 0 (inLay ad (knX S))) (μ, ()) 137 [(0, .ref (ad 0)), (2, .int v2), (3, .int v3), (4, .int v4), (5, .int v5)] []) ?_
    clear h; intro v2 v3 v4 v5 μ h
    have h137 : ∀ (v2 : Int32) (v3 : Int32) (v4 : Int32) (v5 : Int32) (μ : WS), (fun v2 v3 v4 v5 (μ : WS) => VV C 6 (HPW D ac ad (knX S) (ExX D ac ad S) (vS C)) (vQ C (QcW D ac ad (knX S) (qV Q)) 0 0 (inLay ad (knX S))) (μ, ()) 137 [(0, .ref (ad 0)), (2, .int v2), (3, .int v3), (4, .int v4), (5, .int v5)] []) v2 v3 v4 v5 μ → VV C 6 (HPW D ac ad (knX S) (ExX D ac ad S) (vS C)) (vQ C (QcW D ac ad (knX S) (qV Q)) 0 0 (inLay ad (knX S))) (μ, ()) 137 [(0, .ref (ad 0)), (2, .int v2), (3, .int v3), (4, .int v4), (5, .int v5)] [] := fun _ _ _ _ _ h => h
    unfold w_X0_layLeast_137b at h
    refine vv_iload hC dX0_layLeast_137 4 rfl ?_
    refine vv_iload_n hC dX0_layLeast_139 rfl 1 rfl ?_
    refine vv_icmp_ge (tgt := 196) hC dX0_layLeast_140 rfl (fun c21 => ?_) (fun c21 => ?_)
    · replace h := h.1 c21
      refine vv_iinc (pl := 3) (v := v4 + 1) (lv' := [(4, .int (v4 + 1)), (0, .ref (ad 0)), (2, .int v2), (3, .int v3), (5, .int v5)]) hC dX0_layLeast_196 rfl rfl (by decide) rfl ?_
      refine vv_goto (tgt := 105) hC dX0_layLeast_199 rfl ?_
      refine vv_lv [1, 2, 3, 0] rfl ?_
      exact h105 _ _ _ _ h
    · replace h := h.2 c21
      refine vv_aload_n hC dX0_layLeast_143 rfl 0 rfl ?_
      refine vv_getf hC hR hK fxX0_66_X0 0 (lx_0 S) rfl dX0_layLeast_144 ?_
      refine vv_iload_n hC dX0_layLeast_147 rfl 2 rfl ?_
      obtain ⟨hin250, h⟩ := h
      obtain ⟨hk251, h⟩ := h
      refine vv_aald hC hR hK 119 (t := 6) rfl (by decide) rfl (lx_119 S) hin250 hk251 dX0_layLeast_148 ?_
      refine vv_iload hC dX0_layLeast_149 3 rfl ?_
      refine vv_aload_n hC dX0_layLeast_151 rfl 0 rfl ?_
      refine vv_getf hC hR hK fxX0_66_X0 0 (lx_0 S) rfl dX0_layLeast_152 ?_
      refine vv_iload_n hC dX0_layLeast_155 rfl 2 rfl ?_
      obtain ⟨hin252, h⟩ := h
      obtain ⟨hk253, h⟩ := h
      refine vv_aald hC hR hK 119 (t := 6) rfl (by decide) rfl (lx_119 S) hin252 hk253 dX0_layLeast_156 ?_
      refine vv_iload hC dX0_layLeast_157 3 rfl ?_
      obtain ⟨hin254, h⟩ := h
      refine vv_iald hC hR hK (2100 + v3.toNatClampNeg) (kx_least hin252) hin254 dX0_layLeast_159 ?_
      refine vv_iconst hC dX0_layLeast_160 xic_1 ?_
      refine vv_iload hC dX0_layLeast_161 4 rfl ?_
      refine vv_iconst hC dX0_layLeast_163 xic_4 ?_
      refine vv_irem hC dX0_layLeast_164 (by decide) ?_
      refine vv_iadd hC dX0_layLeast_165 ?_
      refine vv_aload_n hC dX0_layLeast_166 rfl 0 rfl ?_
      refine vv_getf hC hR hK fxX0_66_X0 0 (lx_0 S) rfl dX0_layLeast_167 ?_
      refine vv_iload_n hC dX0_layLeast_170 rfl 2 rfl ?_
      refine vv_iconst hC dX0_layLeast_171 xic_1 ?_
      refine vv_isub hC dX0_layLeast_172 ?_
      obtain ⟨hin255, h⟩ := h
      obtain ⟨hk256, h⟩ := h
      refine vv_aald hC hR hK 119 (t := 6) rfl (by decide) rfl (lx_119 S) hin255 hk256 dX0_layLeast_173 ?_
      refine vv_aload_n hC dX0_layLeast_174 rfl 0 rfl ?_
      refine vv_getf hC hR hK fxX0_63_X0 0 (lx_0 S) rfl dX0_layLeast_175 ?_
      refine vv_iload hC dX0_layLeast_178 4 rfl ?_
      obtain ⟨hin257, h⟩ := h
      obtain ⟨hk258, h⟩ := h
      refine vv_aald hC hR hK 118 (t := 6) rfl (by decide) rfl (lx_118 S) hin257 hk258 dX0_layLeast_180 ?_
      refine vv_iload hC dX0_layLeast_181 3 rfl ?_
      obtain ⟨hin259, h⟩ := h
      refine vv_iald hC hR hK (2000 + v5.toNatClampNeg) (kx_gets hin257) hin259 dX0_layLeast_183 ?_
      obtain ⟨hin260, h⟩ := h
      refine vv_iald hC hR hK (2100 + (v3 - 1).toNatClampNeg) (kx_least hin255) hin260 dX0_layLeast_184 ?_
      refine vv_iadd hC dX0_layLeast_185 ?_
      refine vv_mmin hC hRo ⟨q1382, q572, q123, q573⟩ (by rw [hRm]; exact ⟨Nat.le_of_ble_eq_true rfl, Nat.le_of_ble_eq_true rfl⟩) dX0_layLeast_186 ?_
      obtain ⟨hin261, h⟩ := h
      refine vv_iast hC hR hK (2100 + v3.toNatClampNeg) (kx_least hin250) hin261 dX0_layLeast_189 ?_
      refine vv_st (fun y e => ?_)
      obtain ⟨μ22, _⟩ := y
      have eμ22 := congrArg Prod.fst e
      clear e
      replace h := h μ22 eμ22
      refine vv_iinc (pl := 4) (v := v5 + 1) (lv' := [(5, .int (v5 + 1)), (0, .ref (ad 0)), (2, .int v2), (3, .int v3), (4, .int v4)]) hC dX0_layLeast_190 rfl rfl (by decide) rfl ?_
      refine vv_goto (tgt := 137) hC dX0_layLeast_193 rfl ?_
      refine vv_lv [1, 2, 3, 4, 0] rfl ?_
      exact h137 _ _ _ _ _ h
  have L105 : ∀ (P97 : Int32 → Int32 → WS → Prop) (h97 : ∀ (v2 : Int32) (v3 : Int32) (μ : WS), P97 v2 v3 μ → VV C 6 (HPW D ac ad (knX S) (ExX D ac ad S) (vS C)) (vQ C (QcW D ac ad (knX S) (qV Q)) 0 0 (inLay ad (knX S))) (μ, ()) 97 [(0, .ref (ad 0)), (2, .int v2), (3, .int v3)] []) (v2 : Int32) (v3 : Int32) (v4 : Int32) (μ : WS), w_X0_layLeast_105 S P97 v2 v3 v4 μ Q → VV C 6 (HPW D ac ad (knX S) (ExX D ac ad S) (vS C)) (vQ C (QcW D ac ad (knX S) (qV Q)) 0 0 (inLay ad (knX S))) (μ, ()) 105 [(0, .ref (ad 0)), (2, .int v2), (3, .int v3), (4, .int v4)] [] := by
    intro P97 h97 v2 v3 v4 μ h
    refine h (fun v2 v3 v4 μ => VV C 6 (HPW D ac ad (knX S) (ExX D ac ad S) (vS C)) (vQ C (QcW D ac ad (knX S) (qV Q)) 0 0 (inLay ad (knX S))) (μ, ()) 105 [(0, .ref (ad 0)), (2, .int v2), (3, .int v3), (4, .int v4)] []) ?_
    clear h; intro v2 v3 v4 μ h
    have h105 : ∀ (v2 : Int32) (v3 : Int32) (v4 : Int32) (μ : WS), (fun v2 v3 v4 (μ : WS) => VV C 6 (HPW D ac ad (knX S) (ExX D ac ad S) (vS C)) (vQ C (QcW D ac ad (knX S) (qV Q)) 0 0 (inLay ad (knX S))) (μ, ()) 105 [(0, .ref (ad 0)), (2, .int v2), (3, .int v3), (4, .int v4)] []) v2 v3 v4 μ → VV C 6 (HPW D ac ad (knX S) (ExX D ac ad S) (vS C)) (vQ C (QcW D ac ad (knX S) (qV Q)) 0 0 (inLay ad (knX S))) (μ, ()) 105 [(0, .ref (ad 0)), (2, .int v2), (3, .int v3), (4, .int v4)] [] := fun _ _ _ _ h => h
    unfold w_X0_layLeast_105b at h
    refine vv_iload hC dX0_layLeast_105 3 rfl ?_
    refine vv_aload_n hC dX0_layLeast_107 rfl 0 rfl ?_
    refine vv_callVi hC hR hK hRo hRm [] [.int v4] (met_X0_rows (vL C) D ac ad S hLay  μ _ h) gxX0_157 mf_X0_rows rfl (lx_0 S) rfl rfl rfl rfl dX0_layLeast_108 (fun r18 μ17 h => ?_)
    refine vv_icmp_ge (tgt := 202) hC dX0_layLeast_111 rfl (fun c19 => ?_) (fun c19 => ?_)
    · replace h := h.1 c19
      refine vv_iinc (pl := 2) (v := v3 + 1) (lv' := [(3, .int (v3 + 1)), (0, .ref (ad 0)), (2, .int v2), (4, .int v4)]) hC dX0_layLeast_202 rfl rfl (by decide) rfl ?_
      refine vv_goto (tgt := 97) hC dX0_layLeast_205 rfl ?_
      refine vv_lv [1, 2, 0] rfl ?_
      exact h97 _ _ _ h
    · replace h := h.2 c19
      refine vv_aload_n hC dX0_layLeast_114 rfl 0 rfl ?_
      refine vv_getf hC hR hK fxX0_66_X0 0 (lx_0 S) rfl dX0_layLeast_115 ?_
      refine vv_iload_n hC dX0_layLeast_118 rfl 2 rfl ?_
      obtain ⟨hin244, h⟩ := h
      obtain ⟨hk245, h⟩ := h
      refine vv_aald hC hR hK 119 (t := 6) rfl (by decide) rfl (lx_119 S) hin244 hk245 dX0_layLeast_119 ?_
      refine vv_iload hC dX0_layLeast_120 3 rfl ?_
      refine vv_aload_n hC dX0_layLeast_122 rfl 0 rfl ?_
      refine vv_getf hC hR hK fxX0_66_X0 0 (lx_0 S) rfl dX0_layLeast_123 ?_
      refine vv_iload_n hC dX0_layLeast_126 rfl 2 rfl ?_
      refine vv_iconst hC dX0_layLeast_127 xic_1 ?_
      refine vv_isub hC dX0_layLeast_128 ?_
      obtain ⟨hin246, h⟩ := h
      obtain ⟨hk247, h⟩ := h
      refine vv_aald hC hR hK 119 (t := 6) rfl (by decide) rfl (lx_119 S) hin246 hk247 dX0_layLeast_129 ?_
      refine vv_iload hC dX0_layLeast_130 3 rfl ?_
      obtain ⟨hin248, h⟩ := h
      refine vv_iald hC hR hK (2100 + (v3 - 1).toNatClampNeg) (kx_least hin246) hin248 dX0_layLeast_132 ?_
      obtain ⟨hin249, h⟩ := h
      refine vv_iast hC hR hK (2100 + v3.toNatClampNeg) (kx_least hin244) hin249 dX0_layLeast_133 ?_
      refine vv_st (fun y e => ?_)
      obtain ⟨μ20, _⟩ := y
      have eμ20 := congrArg Prod.fst e
      clear e
      replace h := h μ20 eμ20
      refine vv_iconst hC dX0_layLeast_134 xic_0 ?_
      refine vv_istore (lv' := [(5, .int 0), (0, .ref (ad 0)), (2, .int v2), (3, .int v3), (4, .int v4)]) hC dX0_layLeast_135 (by decide) rfl ?_
      refine vv_lv [1, 2, 3, 4, 0] rfl ?_
      exact L137 _ h97 _ h105 _ _ _ _ _ h
  have L97 : ∀ (v2 : Int32) (v3 : Int32) (μ : WS), w_X0_layLeast_97 S  v2 v3 μ Q → VV C 6 (HPW D ac ad (knX S) (ExX D ac ad S) (vS C)) (vQ C (QcW D ac ad (knX S) (qV Q)) 0 0 (inLay ad (knX S))) (μ, ()) 97 [(0, .ref (ad 0)), (2, .int v2), (3, .int v3)] [] := by
    intro  v2 v3 μ h
    refine h (fun v2 v3 μ => VV C 6 (HPW D ac ad (knX S) (ExX D ac ad S) (vS C)) (vQ C (QcW D ac ad (knX S) (qV Q)) 0 0 (inLay ad (knX S))) (μ, ()) 97 [(0, .ref (ad 0)), (2, .int v2), (3, .int v3)] []) ?_
    clear h; intro v2 v3 μ h
    have h97 : ∀ (v2 : Int32) (v3 : Int32) (μ : WS), (fun v2 v3 (μ : WS) => VV C 6 (HPW D ac ad (knX S) (ExX D ac ad S) (vS C)) (vQ C (QcW D ac ad (knX S) (qV Q)) 0 0 (inLay ad (knX S))) (μ, ()) 97 [(0, .ref (ad 0)), (2, .int v2), (3, .int v3)] []) v2 v3 μ → VV C 6 (HPW D ac ad (knX S) (ExX D ac ad S) (vS C)) (vQ C (QcW D ac ad (knX S) (qV Q)) 0 0 (inLay ad (knX S))) (μ, ()) 97 [(0, .ref (ad 0)), (2, .int v2), (3, .int v3)] [] := fun _ _ _ h => h
    unfold w_X0_layLeast_97b at h
    refine vv_iload_n hC dX0_layLeast_97 rfl 2 rfl ?_
    refine vv_iconst hC dX0_layLeast_98 xic_4 ?_
    refine vv_icmp_gt (tgt := 208) hC dX0_layLeast_99 rfl (fun c16 => ?_) (fun c16 => ?_)
    · replace h := h.1 c16
      exact vv_vret hC hM dX0_layLeast_208 h
    · replace h := h.2 c16
      refine vv_iconst hC dX0_layLeast_102 xic_0 ?_
      refine vv_istore (lv' := [(4, .int 0), (0, .ref (ad 0)), (2, .int v2), (3, .int v3)]) hC dX0_layLeast_103 (by decide) rfl ?_
      refine vv_lv [1, 2, 3, 0] rfl ?_
      exact L105 _ h97 _ _ _ _ h
  have L88 : ∀ (P61 : Int32 → Int32 → Int32 → WS → Prop) (h61 : ∀ (v1 : Int32) (v2 : Int32) (v3 : Int32) (μ : WS), P61 v1 v2 v3 μ → VV C 6 (HPW D ac ad (knX S) (ExX D ac ad S) (vS C)) (vQ C (QcW D ac ad (knX S) (qV Q)) 0 0 (inLay ad (knX S))) (μ, ()) 61 [(0, .ref (ad 0)), (1, .int v1), (2, .int v2), (3, .int v3)] []) (s0 : Int32) (s1 : Int32) (v1 : Int32) (v2 : Int32) (v3 : Int32) (μ : WS), w_X0_layLeast_88 S P61 s0 s1 v1 v2 v3 μ Q → VV C 6 (HPW D ac ad (knX S) (ExX D ac ad S) (vS C)) (vQ C (QcW D ac ad (knX S) (qV Q)) 0 0 (inLay ad (knX S))) (μ, ()) 88 [(0, .ref (ad 0)), (1, .int v1), (2, .int v2), (3, .int v3)] [.int s0, .int s1, .ref (ad 2100)] := by
    intro P61 h61 s0 s1 v1 v2 v3 μ h
    unfold w_X0_layLeast_88 at h
    obtain ⟨hin243, h⟩ := h
    refine vv_iast hC hR hK 2100 (lx_2100 S) hin243 dX0_layLeast_88 ?_
    refine vv_st (fun y e => ?_)
    obtain ⟨μ15, _⟩ := y
    have eμ15 := congrArg Prod.fst e
    clear e
    replace h := h μ15 eμ15
    refine vv_iinc (pl := 3) (v := v3 + 1) (lv' := [(3, .int (v3 + 1)), (0, .ref (ad 0)), (1, .int v1), (2, .int v2)]) hC dX0_layLeast_89 rfl rfl (by decide) rfl ?_
    refine vv_goto (tgt := 61) hC dX0_layLeast_92 rfl ?_
    refine vv_lv [1, 2, 3, 0] rfl ?_
    exact h61 _ _ _ _ h
  have L61 : ∀ (v1 : Int32) (v2 : Int32) (v3 : Int32) (μ : WS), w_X0_layLeast_61 S  v1 v2 v3 μ Q → VV C 6 (HPW D ac ad (knX S) (ExX D ac ad S) (vS C)) (vQ C (QcW D ac ad (knX S) (qV Q)) 0 0 (inLay ad (knX S))) (μ, ()) 61 [(0, .ref (ad 0)), (1, .int v1), (2, .int v2), (3, .int v3)] [] := by
    intro  v1 v2 v3 μ h
    refine h (fun v1 v2 v3 μ => VV C 6 (HPW D ac ad (knX S) (ExX D ac ad S) (vS C)) (vQ C (QcW D ac ad (knX S) (qV Q)) 0 0 (inLay ad (knX S))) (μ, ()) 61 [(0, .ref (ad 0)), (1, .int v1), (2, .int v2), (3, .int v3)] []) ?_
    clear h; intro v1 v2 v3 μ h
    have h61 : ∀ (v1 : Int32) (v2 : Int32) (v3 : Int32) (μ : WS), (fun v1 v2 v3 (μ : WS) => VV C 6 (HPW D ac ad (knX S) (ExX D ac ad S) (vS C)) (vQ C (QcW D ac ad (knX S) (qV Q)) 0 0 (inLay ad (knX S))) (μ, ()) 61 [(0, .ref (ad 0)), (1, .int v1), (2, .int v2), (3, .int v3)] []) v1 v2 v3 μ → VV C 6 (HPW D ac ad (knX S) (ExX D ac ad S) (vS C)) (vQ C (QcW D ac ad (knX S) (qV Q)) 0 0 (inLay ad (knX S))) (μ, ()) 61 [(0, .ref (ad 0)), (1, .int v1), (2, .int v2), (3, .int v3)] [] := fun _ _ _ _ h => h
    unfold w_X0_layLeast_61b at h
    refine vv_iload_n hC dX0_layLeast_61 rfl 3 rfl ?_
    refine vv_aload_n hC dX0_layLeast_62 rfl 0 rfl ?_
    refine vv_callVi hC hR hK hRo hRm [] [.int v3] (met_X0_rows (vL C) D ac ad S hLay  μ _ h) gxX0_157 mf_X0_rows rfl (lx_0 S) rfl rfl rfl rfl dX0_layLeast_63 (fun r12 μ11 h => ?_)
    refine vv_icmp_ge (tgt := 95) hC dX0_layLeast_66 rfl (fun c13 => ?_) (fun c13 => ?_)
    · replace h := h.1 c13
      refine vv_iconst hC dX0_layLeast_95 xic_1 ?_
      refine vv_istore_n (lv' := [(3, .int 1), (0, .ref (ad 0)), (1, .int v1), (2, .int v2)]) hC dX0_layLeast_96 rfl (by decide) rfl ?_
      refine vv_lv [1, 3, 0] rfl ?_
      exact L97  _ _ _ h
    · replace h := h.2 c13
      refine vv_aload_n hC dX0_layLeast_69 rfl 0 rfl ?_
      refine vv_getf hC hR hK fxX0_66_X0 0 (lx_0 S) rfl dX0_layLeast_70 ?_
      refine vv_iconst hC dX0_layLeast_73 xic_0 ?_
      obtain ⟨hk242, h⟩ := h
      refine vv_aald hC hR hK 119 (t := 6) rfl (by decide) rfl (lx_119 S) xvin_0_5 hk242 dX0_layLeast_74 ?_
      refine vv_iload_n hC dX0_layLeast_75 rfl 3 rfl ?_
      refine vv_iload_n hC dX0_layLeast_76 rfl 3 rfl ?_
      refine vv_iload_n hC dX0_layLeast_77 rfl 1 rfl ?_
      refine vv_icmp_ne (tgt := 85) hC dX0_layLeast_78 rfl (fun c14 => ?_) (fun c14 => ?_)
      · replace h := h.1 c14
        refine vv_ldcw hC q1337 dX0_layLeast_85 ?_
        exact L88 _ h61 _ _ _ _ _ _ h
      · replace h := h.2 c14
        refine vv_iconst hC dX0_layLeast_81 xic_0 ?_
        refine vv_goto (tgt := 88) hC dX0_layLeast_82 rfl ?_
        exact L88 _ h61 _ _ _ _ _ _ h
  have L17 : ∀ (P9 : Int32 → Int32 → Int32 → WS → Prop) (h9 : ∀ (v1 : Int32) (v2 : Int32) (v3 : Int32) (μ : WS), P9 v1 v2 v3 μ → VV C 6 (HPW D ac ad (knX S) (ExX D ac ad S) (vS C)) (vQ C (QcW D ac ad (knX S) (qV Q)) 0 0 (inLay ad (knX S))) (μ, ()) 9 [(0, .ref (ad 0)), (1, .int v1), (2, .int v2), (3, .int v3)] []) (v1 : Int32) (v2 : Int32) (v3 : Int32) (v4 : Int32) (μ : WS), w_X0_layLeast_17 S P9 v1 v2 v3 v4 μ Q → VV C 6 (HPW D ac ad (knX S) (ExX D ac ad S) (vS C)) (vQ C (QcW D ac ad (knX S) (qV Q)) 0 0 (inLay ad (knX S))) (μ, ()) 17 [(0, .ref (ad 0)), (1, .int v1), (2, .int v2), (3, .int v3), (4, .int v4)] [] := by
    intro P9 h9 v1 v2 v3 v4 μ h
    refine h (fun v1 v2 v3 v4 μ => VV C 6 (HPW D ac ad (knX S) (ExX D ac ad S) (vS C)) (vQ C (QcW D ac ad (knX S) (qV Q)) 0 0 (inLay ad (knX S))) (μ, ()) 17 [(0, .ref (ad 0)), (1, .int v1), (2, .int v2), (3, .int v3), (4, .int v4)] []) ?_
    clear h; intro v1 v2 v3 v4 μ h
    have h17 : ∀ (v1 : Int32) (v2 : Int32) (v3 : Int32) (v4 : Int32) (μ : WS), (fun v1 v2 v3 v4 (μ : WS) => VV C 6 (HPW D ac ad (knX S) (ExX D ac ad S) (vS C)) (vQ C (QcW D ac ad (knX S) (qV Q)) 0 0 (inLay ad (knX S))) (μ, ()) 17 [(0, .ref (ad 0)), (1, .int v1), (2, .int v2), (3, .int v3), (4, .int v4)] []) v1 v2 v3 v4 μ → VV C 6 (HPW D ac ad (knX S) (ExX D ac ad S) (vS C)) (vQ C (QcW D ac ad (knX S) (qV Q)) 0 0 (inLay ad (knX S))) (μ, ()) 17 [(0, .ref (ad 0)), (1, .int v1), (2, .int v2), (3, .int v3), (4, .int v4)] [] := fun _ _ _ _ _ h => h
    unfold w_X0_layLeast_17b at h
    refine vv_iload hC dX0_layLeast_17 4 rfl ?_
    refine vv_aload_n hC dX0_layLeast_19 rfl 0 rfl ?_
    refine vv_callVi hC hR hK hRo hRm [] [.int v4] (met_X0_rows (vL C) D ac ad S hLay  μ _ h) gxX0_157 mf_X0_rows rfl (lx_0 S) rfl rfl rfl rfl dX0_layLeast_20 (fun r6 μ5 h => ?_)
    refine vv_icmp_ge (tgt := 53) hC dX0_layLeast_23 rfl (fun c7 => ?_) (fun c7 => ?_)
    · replace h := h.1 c7
      refine vv_iinc (pl := 3) (v := v3 + 1) (lv' := [(3, .int (v3 + 1)), (0, .ref (ad 0)), (1, .int v1), (2, .int v2), (4, .int v4)]) hC dX0_layLeast_53 rfl rfl (by decide) rfl ?_
      refine vv_goto (tgt := 9) hC dX0_layLeast_56 rfl ?_
      refine vv_lv [1, 2, 3, 0] rfl ?_
      exact h9 _ _ _ _ h
    · replace h := h.2 c7
      refine vv_aload_n hC dX0_layLeast_26 rfl 0 rfl ?_
      refine vv_getf hC hR hK fxX0_63_X0 0 (lx_0 S) rfl dX0_layLeast_27 ?_
      refine vv_iload_n hC dX0_layLeast_30 rfl 3 rfl ?_
      obtain ⟨hin239, h⟩ := h
      obtain ⟨hk240, h⟩ := h
      refine vv_aald hC hR hK 118 (t := 6) rfl (by decide) rfl (lx_118 S) hin239 hk240 dX0_layLeast_31 ?_
      refine vv_iload hC dX0_layLeast_32 4 rfl ?_
      refine vv_aload_n hC dX0_layLeast_34 rfl 0 rfl ?_
      refine vv_iload hC dX0_layLeast_35 4 rfl ?_
      refine vv_iload_n hC dX0_layLeast_37 rfl 3 rfl ?_
      refine vv_iconst hC dX0_layLeast_38 xic_4 ?_
      refine vv_idiv hC dX0_layLeast_39 (by decide) ?_
      refine vv_iload_n hC dX0_layLeast_40 rfl 3 rfl ?_
      refine vv_iconst hC dX0_layLeast_41 xic_4 ?_
      refine vv_irem hC dX0_layLeast_42 (by decide) ?_
      refine vv_callVi hC hR hK hRo hRm [.int v4, .int (v3 / 4), .int (v3 - v3 / 4 * 4)] [.int v4, .ref (ad (2000 + v3.toNatClampNeg))] (met_X0_castOf (vL C) D ac ad S hLay v4 (v3 / 4) (v3 - v3 / 4 * 4) μ5 _ h) gxX0_236 mf_X0_castOf rfl (lx_0 S) rfl rfl rfl rfl dX0_layLeast_43 (fun r9 μ8 h => ?_)
      obtain ⟨hin241, h⟩ := h
      refine vv_iast hC hR hK (2000 + v3.toNatClampNeg) (kx_gets hin239) hin241 dX0_layLeast_46 ?_
      refine vv_st (fun y e => ?_)
      obtain ⟨μ10, _⟩ := y
      have eμ10 := congrArg Prod.fst e
      clear e
      replace h := h μ10 eμ10
      refine vv_iinc (pl := 4) (v := v4 + 1) (lv' := [(4, .int (v4 + 1)), (0, .ref (ad 0)), (1, .int v1), (2, .int v2), (3, .int v3)]) hC dX0_layLeast_47 rfl rfl (by decide) rfl ?_
      refine vv_goto (tgt := 17) hC dX0_layLeast_50 rfl ?_
      refine vv_lv [1, 2, 3, 4, 0] rfl ?_
      exact h17 _ _ _ _ _ h
  have L9 : ∀ (v1 : Int32) (v2 : Int32) (v3 : Int32) (μ : WS), w_X0_layLeast_9 S  v1 v2 v3 μ Q → VV C 6 (HPW D ac ad (knX S) (ExX D ac ad S) (vS C)) (vQ C (QcW D ac ad (knX S) (qV Q)) 0 0 (inLay ad (knX S))) (μ, ()) 9 [(0, .ref (ad 0)), (1, .int v1), (2, .int v2), (3, .int v3)] [] := by
    intro  v1 v2 v3 μ h
    refine h (fun v1 v2 v3 μ => VV C 6 (HPW D ac ad (knX S) (ExX D ac ad S) (vS C)) (vQ C (QcW D ac ad (knX S) (qV Q)) 0 0 (inLay ad (knX S))) (μ, ()) 9 [(0, .ref (ad 0)), (1, .int v1), (2, .int v2), (3, .int v3)] []) ?_
    clear h; intro v1 v2 v3 μ h
    have h9 : ∀ (v1 : Int32) (v2 : Int32) (v3 : Int32) (μ : WS), (fun v1 v2 v3 (μ : WS) => VV C 6 (HPW D ac ad (knX S) (ExX D ac ad S) (vS C)) (vQ C (QcW D ac ad (knX S) (qV Q)) 0 0 (inLay ad (knX S))) (μ, ()) 9 [(0, .ref (ad 0)), (1, .int v1), (2, .int v2), (3, .int v3)] []) v1 v2 v3 μ → VV C 6 (HPW D ac ad (knX S) (ExX D ac ad S) (vS C)) (vQ C (QcW D ac ad (knX S) (qV Q)) 0 0 (inLay ad (knX S))) (μ, ()) 9 [(0, .ref (ad 0)), (1, .int v1), (2, .int v2), (3, .int v3)] [] := fun _ _ _ _ h => h
    unfold w_X0_layLeast_9b at h
    refine vv_iload_n hC dX0_layLeast_9 rfl 3 rfl ?_
    refine vv_iload_n hC dX0_layLeast_10 rfl 2 rfl ?_
    refine vv_icmp_ge (tgt := 59) hC dX0_layLeast_11 rfl (fun c4 => ?_) (fun c4 => ?_)
    · replace h := h.1 c4
      refine vv_iconst hC dX0_layLeast_59 xic_0 ?_
      refine vv_istore_n (lv' := [(3, .int 0), (0, .ref (ad 0)), (1, .int v1), (2, .int v2)]) hC dX0_layLeast_60 rfl (by decide) rfl ?_
      refine vv_lv [1, 2, 3, 0] rfl ?_
      exact L61  _ _ _ _ h
    · replace h := h.2 c4
      refine vv_iconst hC dX0_layLeast_14 xic_0 ?_
      refine vv_istore (lv' := [(4, .int 0), (0, .ref (ad 0)), (1, .int v1), (2, .int v2), (3, .int v3)]) hC dX0_layLeast_15 (by decide) rfl ?_
      refine vv_lv [1, 2, 3, 4, 0] rfl ?_
      exact L17 _ h9 _ _ _ _ _ h
  unfold w_X0_layLeast at h
  refine vv_aload_n hC dX0_layLeast_0 rfl 0 rfl ?_
  refine vv_callVi hC hR hK hRo hRm [] [] (met_X0_hands (vL C) D ac ad S hLay  μ _ h) gxX0_138 mf_X0_hands rfl (lx_0 S) rfl rfl rfl rfl dX0_layLeast_1 (fun r2 μ1 h => ?_)
  refine vv_iconst hC dX0_layLeast_4 xic_4 ?_
  refine vv_imul hC dX0_layLeast_5 ?_
  refine vv_topi (fun x3 ex3 => ?_)
  replace h := h x3 ex3
  refine vv_istore_n (lv' := [(2, .int x3), (0, .ref (ad 0)), (1, .int v1)]) hC dX0_layLeast_6 rfl (by decide) rfl ?_
  refine vv_iconst hC dX0_layLeast_7 xic_0 ?_
  refine vv_istore_n (lv' := [(3, .int 0), (2, .int x3), (0, .ref (ad 0)), (1, .int v1)]) hC dX0_layLeast_8 rfl (by decide) rfl ?_
  refine vv_lv [2, 3, 1, 0] rfl ?_
  exact L9  _ _ _ _ h
