set_option maxRecDepth 100000
def w_X4_untell (v1 : Int32) (μ : WS) (Q : Int32 → WS → Prop) : Prop := (w_X4_isIn v1 0 ((μ.1 0 58) - 1) μ (fun r2 μ1 => ((r2 = 0) → Q 0 μ1) ∧ ((¬ r2 = 0) → (vp_in v1 40 ∧ ((μ1.1 35 v1.toNatClampNeg < 0) → (vp_in v1 40 ∧ (∀ μ5 : WS, μ5 = wset μ1 35 v1.toNatClampNeg (μ1.1 0 59) → Q 1 μ5))) ∧ ((¬ μ1.1 35 v1.toNatClampNeg < 0) → Q 0 μ1)))))
abbrev rm_X4_untell : Room := { frames := 1, cells := 0, slots := 0, locals := 22 }
theorem mf_X4_untell : MFact yX4_untell 1 rm_X4_untell := ⟨by decide +kernel, rfl, rfl⟩
set_option maxHeartbeats 4000000 in
theorem met_X4_untell (l : Launch) (D : va_G) (ac : Nat → ClassId) (ad : Nat → Nat) (Ex : Heap → Prop) (hLay : LayOk ad knM) (hEx : ExOk ad knM Ex) (v1 : Int32) (μ : WS) (Q : Int32 → WS → Prop) (h : w_X4_untell v1 μ Q) : CMet l yX4_untell cX4_untell 2 (some .boolean) rm_X4_untell D ac ad knM Ex [.ref (ad 0), .int v1] μ (qI Q) := by
  refine vv_met (lv := [(0, .ref (ad 0)), (1, .int v1)]) (by decide) hLay hEx (Nat.le_of_ble_eq_true rfl) rfl ⟨rfl, rfl⟩ (fun C hC hK hRm hLl hR hM => ?_)
  subst hLl
  have hRo : RoomOk (HPW D ac ad knM Ex (vS C)) (vR C) := HPW.room
  unfold w_X4_untell at h
  refine vv_iload_n hC dX4_untell_0 rfl 1 rfl ?_
  refine vv_iconst hC dX4_untell_1 ic_0 ?_
  refine vv_aload_n hC dX4_untell_2 rfl 0 rfl ?_
  refine vv_getf hC hR hK fa4_377 0 lm_0 (fm_58 ad _ _ _) dX4_untell_3 ?_
  refine vv_iconst hC dX4_untell_6 ic_1 ?_
  refine vv_isub hC dX4_untell_7 ?_
  refine vv_callSi hC hR hK hRo hRm [.int v1, .int 0, .int ((μ.1 0 58) - 1)] [] (met_X4_isIn (vL C) D ac ad Ex hLay hEx v1 0 ((μ.1 0 58) - 1) μ _ h) gw4_345 mf_X4_isIn rfl rfl rfl dX4_untell_8 (fun r2 μ1 h => ?_)
  refine vv_if_eq (tgt := 23) hC dX4_untell_11 rfl (fun c3 => ?_) (fun c3 => ?_)
  · replace h := h.1 c3
    refine vv_iconst hC dX4_untell_23 ic_0 ?_
    exact vv_zret hC hM dX4_untell_24 isB_0 h
  · replace h := h.2 c3
    refine vv_aload_n hC dX4_untell_14 rfl 0 rfl ?_
    refine vv_getf hC hR hK fa4_120 0 lm_0 (fm_57 ad _ _ _) dX4_untell_15 ?_
    refine vv_iload_n hC dX4_untell_18 rfl 1 rfl ?_
    obtain ⟨hin, h⟩ := h
    refine vv_iald hC hR hK 35 lm_35 hin dX4_untell_19 ?_
    refine vv_if_lt (tgt := 25) hC dX4_untell_20 rfl (fun c4 => ?_) (fun c4 => ?_)
    · replace h := h.1 c4
      refine vv_aload_n hC dX4_untell_25 rfl 0 rfl ?_
      refine vv_getf hC hR hK fa4_120 0 lm_0 (fm_57 ad _ _ _) dX4_untell_26 ?_
      refine vv_iload_n hC dX4_untell_29 rfl 1 rfl ?_
      refine vv_aload_n hC dX4_untell_30 rfl 0 rfl ?_
      refine vv_getf hC hR hK fa4_420 0 lm_0 (fm_59 ad _ _ _) dX4_untell_31 ?_
      obtain ⟨hin, h⟩ := h
      refine vv_iast hC hR hK 35 lm_35 hin dX4_untell_34 ?_
      refine vv_st (fun y e => ?_)
      obtain ⟨μ5, _⟩ := y
      have eμ5 := congrArg Prod.fst e
      clear e
      replace h := h μ5 eμ5
      refine vv_iconst hC dX4_untell_35 ic_1 ?_
      exact vv_zret hC hM dX4_untell_36 isB_1 h
    · replace h := h.2 c4
      refine vv_iconst hC dX4_untell_23 ic_0 ?_
      exact vv_zret hC hM dX4_untell_24 isB_0 h
def w_X4_later (v1 : Int32) (μ : WS) (Q : Int32 → WS → Prop) : Prop := (w_X4_isIn v1 0 1000 μ (fun r2 μ1 => ((r2 = 0) → Q (-1) μ1) ∧ ((¬ r2 = 0) → (((μ1.1 0 59) + v1 ≤ 100000) → (∀ μ5 : WS, μ5 = wset μ1 0 59 ((μ1.1 0 59) + v1) → Q (μ5.1 0 59) μ5)) ∧ ((¬ (μ1.1 0 59) + v1 ≤ 100000) → Q (-1) μ1))))
abbrev rm_X4_later : Room := { frames := 1, cells := 0, slots := 0, locals := 22 }
theorem mf_X4_later : MFact yX4_later 1 rm_X4_later := ⟨by decide +kernel, rfl, rfl⟩
set_option maxHeartbeats 4000000 in
theorem met_X4_later (l : Launch) (D : va_G) (ac : Nat → ClassId) (ad : Nat → Nat) (Ex : Heap → Prop) (hLay : LayOk ad knM) (hEx : ExOk ad knM Ex) (v1 : Int32) (μ : WS) (Q : Int32 → WS → Prop) (h : w_X4_later v1 μ Q) : CMet l yX4_later cX4_later 2 (some .int) rm_X4_later D ac ad knM Ex [.ref (ad 0), .int v1] μ (qI Q) := by
  refine vv_met (lv := [(0, .ref (ad 0)), (1, .int v1)]) (by decide) hLay hEx (Nat.le_of_ble_eq_true rfl) rfl ⟨rfl, rfl⟩ (fun C hC hK hRm hLl hR hM => ?_)
  subst hLl
  have hRo : RoomOk (HPW D ac ad knM Ex (vS C)) (vR C) := HPW.room
  unfold w_X4_later at h
  refine vv_iload_n hC dX4_later_0 rfl 1 rfl ?_
  refine vv_iconst hC dX4_later_1 ic_0 ?_
  refine vv_sipush hC dX4_later_2 sp_1000 ?_
  refine vv_callSi hC hR hK hRo hRm [.int v1, .int 0, .int 1000] [] (met_X4_isIn (vL C) D ac ad Ex hLay hEx v1 0 1000 μ _ h) gw4_345 mf_X4_isIn rfl rfl rfl dX4_later_5 (fun r2 μ1 h => ?_)
  refine vv_if_eq (tgt := 23) hC dX4_later_8 rfl (fun c3 => ?_) (fun c3 => ?_)
  · replace h := h.1 c3
    refine vv_iconst hC dX4_later_23 ic_m1 ?_
    exact vv_iret hC hM dX4_later_24 h
  · replace h := h.2 c3
    refine vv_aload_n hC dX4_later_11 rfl 0 rfl ?_
    refine vv_getf hC hR hK fa4_420 0 lm_0 (fm_59 ad _ _ _) dX4_later_12 ?_
    refine vv_iload_n hC dX4_later_15 rfl 1 rfl ?_
    refine vv_iadd hC dX4_later_16 ?_
    refine vv_ldcw hC q2208 dX4_later_17 ?_
    refine vv_icmp_le (tgt := 25) hC dX4_later_20 rfl (fun c4 => ?_) (fun c4 => ?_)
    · replace h := h.1 c4
      refine vv_aload_n hC dX4_later_25 rfl 0 rfl ?_
      refine vv_dup hC dX4_later_26 rfl ?_
      refine vv_getf hC hR hK fa4_420 0 lm_0 (fm_59 ad _ _ _) dX4_later_27 ?_
      refine vv_iload_n hC dX4_later_30 rfl 1 rfl ?_
      refine vv_iadd hC dX4_later_31 ?_
      refine vv_puti hC hR hK fa4_420 0 lm_0 fn_59 rfl rfl dX4_later_32 ?_
      refine vv_st (fun y e => ?_)
      obtain ⟨μ5, _⟩ := y
      have eμ5 := congrArg Prod.fst e
      clear e
      replace h := h μ5 eμ5
      refine vv_aload_n hC dX4_later_35 rfl 0 rfl ?_
      refine vv_getf hC hR hK fa4_420 0 lm_0 (fm_59 ad _ _ _) dX4_later_36 ?_
      exact vv_iret hC hM dX4_later_39 h
    · replace h := h.2 c4
      refine vv_iconst hC dX4_later_23 ic_m1 ?_
      exact vv_iret hC hM dX4_later_24 h
def w_X4_counts (v1 : Int32) (v2 : Int32) (v3 : Int32) (μ : WS) (Q : Int32 → WS → Prop) : Prop := (vp_in v1 40 ∧ ((¬ μ.1 30 v1.toNatClampNeg = v2) → Q 0 μ) ∧ ((μ.1 30 v1.toNatClampNeg = v2) → (vp_in v1 40 ∧ ((v3 < μ.1 34 v1.toNatClampNeg) → Q 0 μ) ∧ ((¬ v3 < μ.1 34 v1.toNatClampNeg) → (vp_in v1 40 ∧ ((μ.1 35 v1.toNatClampNeg < 0) → Q 1 μ) ∧ ((¬ μ.1 35 v1.toNatClampNeg < 0) → (vp_in v1 40 ∧ ((μ.1 35 v1.toNatClampNeg ≤ v3) → Q 0 μ) ∧ ((¬ μ.1 35 v1.toNatClampNeg ≤ v3) → Q 1 μ))))))))
abbrev rm_X4_counts : Room := { frames := 0, cells := 0, slots := 0, locals := 0 }
theorem mf_X4_counts : MFact yX4_counts 3 rm_X4_counts := ⟨by decide +kernel, rfl, rfl⟩
set_option maxHeartbeats 4000000 in
theorem met_X4_counts (l : Launch) (D : va_G) (ac : Nat → ClassId) (ad : Nat → Nat) (Ex : Heap → Prop) (hLay : LayOk ad knM) (hEx : ExOk ad knM Ex) (v1 : Int32) (v2 : Int32) (v3 : Int32) (μ : WS) (Q : Int32 → WS → Prop) (h : w_X4_counts v1 v2 v3 μ Q) : CMet l yX4_counts cX4_counts 4 (some .boolean) rm_X4_counts D ac ad knM Ex [.ref (ad 0), .int v1, .int v2, .int v3] μ (qI Q) := by
  refine vv_met (lv := [(0, .ref (ad 0)), (1, .int v1), (2, .int v2), (3, .int v3)]) (by decide) hLay hEx (Nat.le_of_ble_eq_true rfl) rfl ⟨rfl, rfl⟩ (fun C hC hK hRm hLl hR hM => ?_)
  subst hLl
  have hRo : RoomOk (HPW D ac ad knM Ex (vS C)) (vR C) := HPW.room
  unfold w_X4_counts at h
  refine vv_aload_n hC dX4_counts_0 rfl 0 rfl ?_
  refine vv_getf hC hR hK fa4_105 0 lm_0 (fm_52 ad _ _ _) dX4_counts_1 ?_
  refine vv_iload_n hC dX4_counts_4 rfl 1 rfl ?_
  obtain ⟨hin, h⟩ := h
  refine vv_iald hC hR hK 30 lm_30 hin dX4_counts_5 ?_
  refine vv_iload_n hC dX4_counts_6 rfl 2 rfl ?_
  refine vv_icmp_ne (tgt := 43) hC dX4_counts_7 rfl (fun c1 => ?_) (fun c1 => ?_)
  · replace h := h.1 c1
    refine vv_iconst hC dX4_counts_43 ic_0 ?_
    exact vv_zret hC hM dX4_counts_44 isB_0 h
  · replace h := h.2 c1
    refine vv_aload_n hC dX4_counts_10 rfl 0 rfl ?_
    refine vv_getf hC hR hK fa4_117 0 lm_0 (fm_56 ad _ _ _) dX4_counts_11 ?_
    refine vv_iload_n hC dX4_counts_14 rfl 1 rfl ?_
    obtain ⟨hin, h⟩ := h
    refine vv_iald hC hR hK 34 lm_34 hin dX4_counts_15 ?_
    refine vv_iload_n hC dX4_counts_16 rfl 3 rfl ?_
    refine vv_icmp_gt (tgt := 43) hC dX4_counts_17 rfl (fun c2 => ?_) (fun c2 => ?_)
    · replace h := h.1 c2
      refine vv_iconst hC dX4_counts_43 ic_0 ?_
      exact vv_zret hC hM dX4_counts_44 isB_0 h
    · replace h := h.2 c2
      refine vv_aload_n hC dX4_counts_20 rfl 0 rfl ?_
      refine vv_getf hC hR hK fa4_120 0 lm_0 (fm_57 ad _ _ _) dX4_counts_21 ?_
      refine vv_iload_n hC dX4_counts_24 rfl 1 rfl ?_
      obtain ⟨hin, h⟩ := h
      refine vv_iald hC hR hK 35 lm_35 hin dX4_counts_25 ?_
      refine vv_if_lt (tgt := 39) hC dX4_counts_26 rfl (fun c3 => ?_) (fun c3 => ?_)
      · replace h := h.1 c3
        refine vv_iconst hC dX4_counts_39 ic_1 ?_
        refine vv_goto (tgt := 44) hC dX4_counts_40 rfl ?_
        exact vv_zret hC hM dX4_counts_44 isB_1 h
      · replace h := h.2 c3
        refine vv_aload_n hC dX4_counts_29 rfl 0 rfl ?_
        refine vv_getf hC hR hK fa4_120 0 lm_0 (fm_57 ad _ _ _) dX4_counts_30 ?_
        refine vv_iload_n hC dX4_counts_33 rfl 1 rfl ?_
        obtain ⟨hin, h⟩ := h
        refine vv_iald hC hR hK 35 lm_35 hin dX4_counts_34 ?_
        refine vv_iload_n hC dX4_counts_35 rfl 3 rfl ?_
        refine vv_icmp_le (tgt := 43) hC dX4_counts_36 rfl (fun c4 => ?_) (fun c4 => ?_)
        · replace h := h.1 c4
          refine vv_iconst hC dX4_counts_43 ic_0 ?_
          exact vv_zret hC hM dX4_counts_44 isB_0 h
        · replace h := h.2 c4
          refine vv_iconst hC dX4_counts_39 ic_1 ?_
          refine vv_goto (tgt := 44) hC dX4_counts_40 rfl ?_
          exact vv_zret hC hM dX4_counts_44 isB_1 h
def w_X4_laySamples_92b (P70 : Int32 → WS → Prop) (P92 : Int32 → Int32 → Int32 → WS → Prop) (v2 : Int32) (v3 : Int32) (v4 : Int32) (μ : WS) (Q : WS → Prop) : Prop := ((μ.1 0 63 ≤ v4) → P70 (v2 + 1) μ) ∧ ((¬ μ.1 0 63 ≤ v4) → (vp_in v4 7 ∧ (w_X4_bitsOf (v3 &&& ((μ.1 36 v4.toNatClampNeg) ^^^ (-1))) μ (fun r14 μ13 => (vp_in v4 7 ∧ (w_X4_bitsOf ((μ13.1 36 v4.toNatClampNeg) &&& (v3 ^^^ (-1))) μ13 (fun r16 μ15 => (vp_in ((7 * v2) + v4) 49 ∧ (∀ μ17 : WS, μ17 = wset μ15 38 ((7 * v2) + v4).toNatClampNeg (r14 + (2 * r16)) → P92 v2 v3 (v4 + 1) μ17)))))))))
def w_X4_laySamples_92 (P70 : Int32 → WS → Prop) (v2 : Int32) (v3 : Int32) (v4 : Int32) (μ : WS) (Q : WS → Prop) : Prop := ∀ P92 : Int32 → Int32 → Int32 → WS → Prop, (∀ (v2 : Int32) (v3 : Int32) (v4 : Int32) (μ : WS), w_X4_laySamples_92b P70 P92 v2 v3 v4 μ Q → P92 v2 v3 v4 μ) → P92 v2 v3 v4 μ
def w_X4_laySamples_70b (P70 : Int32 → WS → Prop) (v2 : Int32) (μ : WS) (Q : WS → Prop) : Prop := ((μ.1 0 63 ≤ v2) → Q μ) ∧ ((¬ μ.1 0 63 ≤ v2) → (vp_in v2 7 ∧ (w_X4_turnedRow (μ.1 36 v2.toNatClampNeg) μ (fun r11 μ10 => w_X4_laySamples_92 P70 v2 r11 0 μ10 Q))))
def w_X4_laySamples_70 (v2 : Int32) (μ : WS) (Q : WS → Prop) : Prop := ∀ P70 : Int32 → WS → Prop, (∀ (v2 : Int32) (μ : WS), w_X4_laySamples_70b  P70 v2 μ Q → P70 v2 μ) → P70 v2 μ
def w_X4_laySamples_68 (μ : WS) (Q : WS → Prop) : Prop := w_X4_laySamples_70 0 μ Q
def w_X4_laySamples_62 (P7 : Int32 → Int32 → WS → Prop) (v1 : Int32) (v2 : Int32) (μ : WS) (Q : WS → Prop) : Prop := P7 v1 (v2 + 1) μ
def w_X4_laySamples_7b (P7 : Int32 → Int32 → WS → Prop) (v1 : Int32) (v2 : Int32) (μ : WS) (Q : WS → Prop) : Prop := ((μ.1 0 58 ≤ v2) → w_X4_laySamples_68 μ Q) ∧ ((¬ μ.1 0 58 ≤ v2) → ((7 ≤ μ.1 0 63) → w_X4_laySamples_68 μ Q) ∧ ((¬ 7 ≤ μ.1 0 63) → (w_X4_counts v2 0 v1 μ (fun r5 μ4 => ((¬ r5 = 0) → (vp_in v2 40 ∧ (vp_in (μ4.1 0 63) 7 ∧ (∀ μ7 : WS, μ7 = wset μ4 36 (μ4.1 0 63).toNatClampNeg (μ4.1 31 v2.toNatClampNeg) → (∀ μ8 : WS, μ8 = wset μ7 0 63 ((μ7.1 0 63) + 1) → w_X4_laySamples_62 P7 v1 v2 μ8 Q))))) ∧ ((r5 = 0) → w_X4_laySamples_62 P7 v1 v2 μ4 Q)))))
def w_X4_laySamples_7 (v1 : Int32) (v2 : Int32) (μ : WS) (Q : WS → Prop) : Prop := ∀ P7 : Int32 → Int32 → WS → Prop, (∀ (v1 : Int32) (v2 : Int32) (μ : WS), w_X4_laySamples_7b  P7 v1 v2 μ Q → P7 v1 v2 μ) → P7 v1 v2 μ
def w_X4_laySamples (v1 : Int32) (μ : WS) (Q : WS → Prop) : Prop := (∀ μ1 : WS, μ1 = wset μ 0 63 0 → w_X4_laySamples_7 v1 0 μ1 Q)
abbrev rm_X4_laySamples : Room := { frames := 2, cells := 0, slots := 0, locals := 43 }
theorem mf_X4_laySamples : MFact yX4_laySamples 1 rm_X4_laySamples := ⟨by decide +kernel, rfl, rfl⟩
set_option maxHeartbeats 4000000 in
theorem met_X4_laySamples (l : Launch) (D : va_G) (ac : Nat → ClassId) (ad : Nat → Nat) (Ex : Heap → Prop) (hLay : LayOk ad knM) (hEx : ExOk ad knM Ex) (v1 : Int32) (μ : WS) (Q : WS → Prop) (h : w_X4_laySamples v1 μ Q) : CMet l yX4_laySamples cX4_laySamples 5 none rm_X4_laySamples D ac ad knM Ex [.ref (ad 0), .int v1] μ (qV Q) := by
  refine vv_met (lv := [(0, .ref (ad 0)), (1, .int v1)]) (by decide) hLay hEx (Nat.le_of_ble_eq_true rfl) rfl ⟨rfl, rfl⟩ (fun C hC hK hRm hLl hR hM => ?_)
  subst hLl
  have hRo : RoomOk (HPW D ac ad knM Ex (vS C)) (vR C) := HPW.room
  have L92 : ∀ (P70 : Int32 → WS → Prop) (h70 : ∀ (v2 : Int32) (μ : WS), P70 v2 μ → VV C 5 (HPW D ac ad knM Ex (vS C)) (vQ C (QcW D ac ad knM (qV Q)) 0 0 (inLay ad knM)) (μ, ()) 70 [(0, .ref (ad 0)), (2, .int v2)] []) (v2 : Int32) (v3 : Int32) (v4 : Int32) (μ : WS), w_X4_laySamples_92 P70 v2 v3 v4 μ Q → VV C 5 (HPW D ac ad knM Ex (vS C)) (vQ C (QcW D ac ad knM (qV Q)) 0 0 (inLay ad knM)) (μ, ()) 92 [(0, .ref (ad 0)), (2, .int v2), (3, .int v3), (4, .int v4)] [] := by
    intro P70 h70 v2 v3 v4 μ h
    refine h (fun v2 v3 v4 μ => VV C 5 (HPW D ac ad knM Ex (vS C)) (vQ C (QcW D ac ad knM (qV Q)) 0 0 (inLay ad knM)) (μ, ()) 92 [(0, .ref (ad 0)), (2, .int v2), (3, .int v3), (4, .int v4)] []) ?_
    clear h; intro v2 v3 v4 μ h
    have h92 : ∀ (v2 : Int32) (v3 : Int32) (v4 : Int32) (μ : WS), (fun v2 v3 v4 (μ : WS) => VV C 5 (HPW D ac ad knM Ex (vS C)) (vQ C (QcW D ac ad knM (qV Q)) 0 0 (inLay ad knM)) (μ, ()) 92 [(0, .ref (ad 0)), (2, .int v2), (3, .int v3), (4, .int v4)] []) v2 v3 v4 μ → VV C 5 (HPW D ac ad knM Ex (vS C)) (vQ C (QcW D ac ad knM (qV Q)) 0 0 (inLay ad knM)) (μ, ()) 92 [(0, .ref (ad 0)), (2, .int v2), (3, .int v3), (4, .int v4)] [] := fun _ _ _ _ h => h
    unfold w_X4_laySamples_92b at h
    refine vv_iload hC dX4_laySamples_92 3 rfl ?_
    refine vv_aload_n hC dX4_laySamples_94 rfl 0 rfl ?_
    refine vv_getf hC hR hK fa4_427 0 lm_0 (fm_63 ad _ _ _) dX4_laySamples_95 ?_
    refine vv_icmp_ge (tgt := 150) hC dX4_laySamples_98 rfl (fun c12 => ?_) (fun c12 => ?_)
    · replace h := h.1 c12
      refine vv_iinc (pl := 1) (v := v2 + 1) (lv' := [(2, .int (v2 + 1)), (0, .ref (ad 0)), (3, .int v3), (4, .int v4)]) hC dX4_laySamples_150 rfl rfl (by decide) rfl ?_
      refine vv_goto (tgt := 70) hC dX4_laySamples_153 rfl ?_
      refine vv_lv [1, 0] rfl ?_
      exact h70 _ _ h
    · replace h := h.2 c12
      refine vv_aload_n hC dX4_laySamples_101 rfl 0 rfl ?_
      refine vv_getf hC hR hK fa4_129 0 lm_0 (fm_62 ad _ _ _) dX4_laySamples_102 ?_
      refine vv_bipush hC dX4_laySamples_105 bp_7 ?_
      refine vv_iload_n hC dX4_laySamples_107 rfl 1 rfl ?_
      refine vv_imul hC dX4_laySamples_108 ?_
      refine vv_iload hC dX4_laySamples_109 3 rfl ?_
      refine vv_iadd hC dX4_laySamples_111 ?_
      refine vv_iload_n hC dX4_laySamples_112 rfl 2 rfl ?_
      refine vv_aload_n hC dX4_laySamples_113 rfl 0 rfl ?_
      refine vv_getf hC hR hK fa4_123 0 lm_0 (fm_60 ad _ _ _) dX4_laySamples_114 ?_
      refine vv_iload hC dX4_laySamples_117 3 rfl ?_
      obtain ⟨hin, h⟩ := h
      refine vv_iald hC hR hK 36 lm_36 hin dX4_laySamples_119 ?_
      refine vv_iconst hC dX4_laySamples_120 ic_m1 ?_
      refine vv_ixor hC dX4_laySamples_121 ?_
      refine vv_iand hC dX4_laySamples_122 ?_
      refine vv_callSi hC hR hK hRo hRm [.int (v3 &&& ((μ.1 36 v4.toNatClampNeg) ^^^ (-1)))] [.int ((7 * v2) + v4), .ref (ad 38)] (met_X4_bitsOf (vL C) D ac ad Ex hLay hEx (v3 &&& ((μ.1 36 v4.toNatClampNeg) ^^^ (-1))) μ _ h) gw4_352 mf_X4_bitsOf rfl rfl rfl dX4_laySamples_123 (fun r14 μ13 h => ?_)
      refine vv_iconst hC dX4_laySamples_126 ic_2 ?_
      refine vv_aload_n hC dX4_laySamples_127 rfl 0 rfl ?_
      refine vv_getf hC hR hK fa4_123 0 lm_0 (fm_60 ad _ _ _) dX4_laySamples_128 ?_
      refine vv_iload hC dX4_laySamples_131 3 rfl ?_
      obtain ⟨hin, h⟩ := h
      refine vv_iald hC hR hK 36 lm_36 hin dX4_laySamples_133 ?_
      refine vv_iload_n hC dX4_laySamples_134 rfl 2 rfl ?_
      refine vv_iconst hC dX4_laySamples_135 ic_m1 ?_
      refine vv_ixor hC dX4_laySamples_136 ?_
      refine vv_iand hC dX4_laySamples_137 ?_
      refine vv_callSi hC hR hK hRo hRm [.int ((μ13.1 36 v4.toNatClampNeg) &&& (v3 ^^^ (-1)))] [.int 2, .int r14, .int ((7 * v2) + v4), .ref (ad 38)] (met_X4_bitsOf (vL C) D ac ad Ex hLay hEx ((μ13.1 36 v4.toNatClampNeg) &&& (v3 ^^^ (-1))) μ13 _ h) gw4_352 mf_X4_bitsOf rfl rfl rfl dX4_laySamples_138 (fun r16 μ15 h => ?_)
      refine vv_imul hC dX4_laySamples_141 ?_
      refine vv_iadd hC dX4_laySamples_142 ?_
      obtain ⟨hin, h⟩ := h
      refine vv_iast hC hR hK 38 lm_38 hin dX4_laySamples_143 ?_
      refine vv_st (fun y e => ?_)
      obtain ⟨μ17, _⟩ := y
      have eμ17 := congrArg Prod.fst e
      clear e
      replace h := h μ17 eμ17
      refine vv_iinc (pl := 3) (v := v4 + 1) (lv' := [(4, .int (v4 + 1)), (0, .ref (ad 0)), (2, .int v2), (3, .int v3)]) hC dX4_laySamples_144 rfl rfl (by decide) rfl ?_
      refine vv_goto (tgt := 92) hC dX4_laySamples_147 rfl ?_
      refine vv_lv [1, 2, 3, 0] rfl ?_
      exact h92 _ _ _ _ h
  have L70 : ∀ (v2 : Int32) (μ : WS), w_X4_laySamples_70  v2 μ Q → VV C 5 (HPW D ac ad knM Ex (vS C)) (vQ C (QcW D ac ad knM (qV Q)) 0 0 (inLay ad knM)) (μ, ()) 70 [(0, .ref (ad 0)), (2, .int v2)] [] := by
    intro  v2 μ h
    refine h (fun v2 μ => VV C 5 (HPW D ac ad knM Ex (vS C)) (vQ C (QcW D ac ad knM (qV Q)) 0 0 (inLay ad knM)) (μ, ()) 70 [(0, .ref (ad 0)), (2, .int v2)] []) ?_
    clear h; intro v2 μ h
    have h70 : ∀ (v2 : Int32) (μ : WS), (fun v2 (μ : WS) => VV C 5 (HPW D ac ad knM Ex (vS C)) (vQ C (QcW D ac ad knM (qV Q)) 0 0 (inLay ad knM)) (μ, ()) 70 [(0, .ref (ad 0)), (2, .int v2)] []) v2 μ → VV C 5 (HPW D ac ad knM Ex (vS C)) (vQ C (QcW D ac ad knM (qV Q)) 0 0 (inLay ad knM)) (μ, ()) 70 [(0, .ref (ad 0)), (2, .int v2)] [] := fun _ _ h => h
    unfold w_X4_laySamples_70b at h
    refine vv_iload_n hC dX4_laySamples_70 rfl 1 rfl ?_
    refine vv_aload_n hC dX4_laySamples_71 rfl 0 rfl ?_
    refine vv_getf hC hR hK fa4_427 0 lm_0 (fm_63 ad _ _ _) dX4_laySamples_72 ?_
    refine vv_icmp_ge (tgt := 156) hC dX4_laySamples_75 rfl (fun c9 => ?_) (fun c9 => ?_)
    · replace h := h.1 c9
      exact vv_vret hC hM dX4_laySamples_156 h
    · replace h := h.2 c9
      refine vv_aload_n hC dX4_laySamples_78 rfl 0 rfl ?_
      refine vv_aload_n hC dX4_laySamples_79 rfl 0 rfl ?_
      refine vv_getf hC hR hK fa4_123 0 lm_0 (fm_60 ad _ _ _) dX4_laySamples_80 ?_
      refine vv_iload_n hC dX4_laySamples_83 rfl 1 rfl ?_
      obtain ⟨hin, h⟩ := h
      refine vv_iald hC hR hK 36 lm_36 hin dX4_laySamples_84 ?_
      refine vv_callVi hC hR hK hRo hRm [.int (μ.1 36 v2.toNatClampNeg)] [] (met_X4_turnedRow (vL C) D ac ad Ex hLay hEx (μ.1 36 v2.toNatClampNeg) μ _ h) gw4_349 mf_X4_turnedRow rfl lm_0 rfl rfl rfl rfl dX4_laySamples_85 (fun r11 μ10 h => ?_)
      refine vv_istore_n (lv' := [(3, .int r11), (0, .ref (ad 0)), (2, .int v2)]) hC dX4_laySamples_88 rfl (by decide) rfl ?_
      refine vv_iconst hC dX4_laySamples_89 ic_0 ?_
      refine vv_istore (lv' := [(4, .int 0), (3, .int r11), (0, .ref (ad 0)), (2, .int v2)]) hC dX4_laySamples_90 (by decide) rfl ?_
      refine vv_lv [2, 3, 1, 0] rfl ?_
      exact L92 _ h70 _ _ _ _ h
  have L68 : ∀ (μ : WS), w_X4_laySamples_68   μ Q → VV C 5 (HPW D ac ad knM Ex (vS C)) (vQ C (QcW D ac ad knM (qV Q)) 0 0 (inLay ad knM)) (μ, ()) 68 [(0, .ref (ad 0))] [] := by
    intro   μ h
    unfold w_X4_laySamples_68 at h
    refine vv_iconst hC dX4_laySamples_68 ic_0 ?_
    refine vv_istore_n (lv' := [(2, .int 0), (0, .ref (ad 0))]) hC dX4_laySamples_69 rfl (by decide) rfl ?_
    refine vv_lv [1, 0] rfl ?_
    exact L70  _ _ h
  have L62 : ∀ (P7 : Int32 → Int32 → WS → Prop) (h7 : ∀ (v1 : Int32) (v2 : Int32) (μ : WS), P7 v1 v2 μ → VV C 5 (HPW D ac ad knM Ex (vS C)) (vQ C (QcW D ac ad knM (qV Q)) 0 0 (inLay ad knM)) (μ, ()) 7 [(0, .ref (ad 0)), (1, .int v1), (2, .int v2)] []) (v1 : Int32) (v2 : Int32) (μ : WS), w_X4_laySamples_62 P7 v1 v2 μ Q → VV C 5 (HPW D ac ad knM Ex (vS C)) (vQ C (QcW D ac ad knM (qV Q)) 0 0 (inLay ad knM)) (μ, ()) 62 [(0, .ref (ad 0)), (1, .int v1), (2, .int v2)] [] := by
    intro P7 h7 v1 v2 μ h
    unfold w_X4_laySamples_62 at h
    refine vv_iinc (pl := 2) (v := v2 + 1) (lv' := [(2, .int (v2 + 1)), (0, .ref (ad 0)), (1, .int v1)]) hC dX4_laySamples_62 rfl rfl (by decide) rfl ?_
    refine vv_goto (tgt := 7) hC dX4_laySamples_65 rfl ?_
    refine vv_lv [1, 2, 0] rfl ?_
    exact h7 _ _ _ h
  have L7 : ∀ (v1 : Int32) (v2 : Int32) (μ : WS), w_X4_laySamples_7  v1 v2 μ Q → VV C 5 (HPW D ac ad knM Ex (vS C)) (vQ C (QcW D ac ad knM (qV Q)) 0 0 (inLay ad knM)) (μ, ()) 7 [(0, .ref (ad 0)), (1, .int v1), (2, .int v2)] [] := by
    intro  v1 v2 μ h
    refine h (fun v1 v2 μ => VV C 5 (HPW D ac ad knM Ex (vS C)) (vQ C (QcW D ac ad knM (qV Q)) 0 0 (inLay ad knM)) (μ, ()) 7 [(0, .ref (ad 0)), (1, .int v1), (2, .int v2)] []) ?_
    clear h; intro v1 v2 μ h
    have h7 : ∀ (v1 : Int32) (v2 : Int32) (μ : WS), (fun v1 v2 (μ : WS) => VV C 5 (HPW D ac ad knM Ex (vS C)) (vQ C (QcW D ac ad knM (qV Q)) 0 0 (inLay ad knM)) (μ, ()) 7 [(0, .ref (ad 0)), (1, .int v1), (2, .int v2)] []) v1 v2 μ → VV C 5 (HPW D ac ad knM Ex (vS C)) (vQ C (QcW D ac ad knM (qV Q)) 0 0 (inLay ad knM)) (μ, ()) 7 [(0, .ref (ad 0)), (1, .int v1), (2, .int v2)] [] := fun _ _ _ h => h
    unfold w_X4_laySamples_7b at h
    refine vv_iload_n hC dX4_laySamples_7 rfl 2 rfl ?_
    refine vv_aload_n hC dX4_laySamples_8 rfl 0 rfl ?_
    refine vv_getf hC hR hK fa4_377 0 lm_0 (fm_58 ad _ _ _) dX4_laySamples_9 ?_
    refine vv_icmp_ge (tgt := 68) hC dX4_laySamples_12 rfl (fun c2 => ?_) (fun c2 => ?_)
    · replace h := h.1 c2
      refine vv_lv [0] rfl ?_
      exact L68  _ h
    · replace h := h.2 c2
      refine vv_aload_n hC dX4_laySamples_15 rfl 0 rfl ?_
      refine vv_getf hC hR hK fa4_427 0 lm_0 (fm_63 ad _ _ _) dX4_laySamples_16 ?_
      refine vv_bipush hC dX4_laySamples_19 bp_7 ?_
      refine vv_icmp_ge (tgt := 68) hC dX4_laySamples_21 rfl (fun c3 => ?_) (fun c3 => ?_)
      · replace h := h.1 c3
        refine vv_lv [0] rfl ?_
        exact L68  _ h
      · replace h := h.2 c3
        refine vv_aload_n hC dX4_laySamples_24 rfl 0 rfl ?_
        refine vv_iload_n hC dX4_laySamples_25 rfl 2 rfl ?_
        refine vv_iconst hC dX4_laySamples_26 ic_0 ?_
        refine vv_iload_n hC dX4_laySamples_27 rfl 1 rfl ?_
        refine vv_callVi hC hR hK hRo hRm [.int v2, .int 0, .int v1] [] (met_X4_counts (vL C) D ac ad Ex hLay hEx v2 0 v1 μ _ h) gw4_430 mf_X4_counts rfl lm_0 rfl rfl rfl rfl dX4_laySamples_28 (fun r5 μ4 h => ?_)
        refine vv_if_ne (tgt := 37) hC dX4_laySamples_31 rfl (fun c6 => ?_) (fun c6 => ?_)
        · replace h := h.1 c6
          refine vv_aload_n hC dX4_laySamples_37 rfl 0 rfl ?_
          refine vv_getf hC hR hK fa4_123 0 lm_0 (fm_60 ad _ _ _) dX4_laySamples_38 ?_
          refine vv_aload_n hC dX4_laySamples_41 rfl 0 rfl ?_
          refine vv_getf hC hR hK fa4_427 0 lm_0 (fm_63 ad _ _ _) dX4_laySamples_42 ?_
          refine vv_aload_n hC dX4_laySamples_45 rfl 0 rfl ?_
          refine vv_getf hC hR hK fa4_108 0 lm_0 (fm_53 ad _ _ _) dX4_laySamples_46 ?_
          refine vv_iload_n hC dX4_laySamples_49 rfl 2 rfl ?_
          obtain ⟨hin, h⟩ := h
          refine vv_iald hC hR hK 31 lm_31 hin dX4_laySamples_50 ?_
          obtain ⟨hin, h⟩ := h
          refine vv_iast hC hR hK 36 lm_36 hin dX4_laySamples_51 ?_
          refine vv_st (fun y e => ?_)
          obtain ⟨μ7, _⟩ := y
          have eμ7 := congrArg Prod.fst e
          clear e
          replace h := h μ7 eμ7
          refine vv_aload_n hC dX4_laySamples_52 rfl 0 rfl ?_
          refine vv_dup hC dX4_laySamples_53 rfl ?_
          refine vv_getf hC hR hK fa4_427 0 lm_0 (fm_63 ad _ _ _) dX4_laySamples_54 ?_
          refine vv_iconst hC dX4_laySamples_57 ic_1 ?_
          refine vv_iadd hC dX4_laySamples_58 ?_
          refine vv_puti hC hR hK fa4_427 0 lm_0 fn_63 rfl rfl dX4_laySamples_59 ?_
          refine vv_st (fun y e => ?_)
          obtain ⟨μ8, _⟩ := y
          have eμ8 := congrArg Prod.fst e
          clear e
          replace h := h μ8 eμ8
          exact L62 _ h7 _ _ _ h
        · replace h := h.2 c6
          refine vv_goto (tgt := 62) hC dX4_laySamples_34 rfl ?_
          exact L62 _ h7 _ _ _ h
  unfold w_X4_laySamples at h
  refine vv_aload_n hC dX4_laySamples_0 rfl 0 rfl ?_
  refine vv_iconst hC dX4_laySamples_1 ic_0 ?_
  refine vv_puti hC hR hK fa4_427 0 lm_0 fn_63 rfl rfl dX4_laySamples_2 ?_
  refine vv_st (fun y e => ?_)
  obtain ⟨μ1, _⟩ := y
  have eμ1 := congrArg Prod.fst e
  clear e
  replace h := h μ1 eμ1
  refine vv_iconst hC dX4_laySamples_5 ic_0 ?_
  refine vv_istore_n (lv' := [(2, .int 0), (0, .ref (ad 0)), (1, .int v1)]) hC dX4_laySamples_6 rfl (by decide) rfl ?_
  refine vv_lv [1, 2, 0] rfl ?_
  exact L7  _ _ _ h
def w_X4_changesOf_155 (P109 : Int32 → Int32 → Int32 → WS → Prop) (v2 : Int32) (v4 : Int32) (v5 : Int32) (v6 : Int32) (μ : WS) (Q : Int32 → WS → Prop) : Prop := ((v6 = v2) → P109 v2 v4 (v5 + 1) μ) ∧ ((¬ v6 = v2) → Q (-1) μ)
def w_X4_changesOf_125b (P109 : Int32 → Int32 → Int32 → WS → Prop) (P125 : Int32 → Int32 → Int32 → Int32 → Int32 → WS → Prop) (v2 : Int32) (v4 : Int32) (v5 : Int32) (v6 : Int32) (v7 : Int32) (μ : WS) (Q : Int32 → WS → Prop) : Prop := ((μ.1 0 63 ≤ v7) → w_X4_changesOf_155 P109 v2 v4 v5 v6 μ Q) ∧ ((¬ μ.1 0 63 ≤ v7) → ((v6 = v2) → w_X4_changesOf_155 P109 v2 v4 v5 v6 μ Q) ∧ ((¬ v6 = v2) → (vp_in v6 7 ∧ (∀ x13 : Int32, x13 = μ.1 37 v6.toNatClampNeg → P125 v2 v4 v5 x13 (v7 + 1) μ))))
def w_X4_changesOf_125 (P109 : Int32 → Int32 → Int32 → WS → Prop) (v2 : Int32) (v4 : Int32) (v5 : Int32) (v6 : Int32) (v7 : Int32) (μ : WS) (Q : Int32 → WS → Prop) : Prop := ∀ P125 : Int32 → Int32 → Int32 → Int32 → Int32 → WS → Prop, (∀ (v2 : Int32) (v4 : Int32) (v5 : Int32) (v6 : Int32) (v7 : Int32) (μ : WS), w_X4_changesOf_125b P109 P125 v2 v4 v5 v6 v7 μ Q → P125 v2 v4 v5 v6 v7 μ) → P125 v2 v4 v5 v6 v7 μ
def w_X4_changesOf_109b (P109 : Int32 → Int32 → Int32 → WS → Prop) (v2 : Int32) (v4 : Int32) (v5 : Int32) (μ : WS) (Q : Int32 → WS → Prop) : Prop := ((μ.1 0 63 ≤ v5) → Q v4 μ) ∧ ((¬ μ.1 0 63 ≤ v5) → w_X4_changesOf_125 P109 v2 v4 v5 v5 0 μ Q)
def w_X4_changesOf_109 (v2 : Int32) (v4 : Int32) (v5 : Int32) (μ : WS) (Q : Int32 → WS → Prop) : Prop := ∀ P109 : Int32 → Int32 → Int32 → WS → Prop, (∀ (v2 : Int32) (v4 : Int32) (v5 : Int32) (μ : WS), w_X4_changesOf_109b  P109 v2 v4 v5 μ Q → P109 v2 v4 v5 μ) → P109 v2 v4 v5 μ
def w_X4_changesOf_100 (P13 : Int32 → Int32 → Int32 → Int32 → WS → Prop) (v2 : Int32) (v3 : Int32) (v4 : Int32) (v5 : Int32) (μ : WS) (Q : Int32 → WS → Prop) : Prop := P13 v2 v3 v4 (v5 + (-1)) μ
def w_X4_changesOf_76 (P13 : Int32 → Int32 → Int32 → Int32 → WS → Prop) (s0 : Int32) (s1 : Int32) (v2 : Int32) (v3 : Int32) (v4 : Int32) (v5 : Int32) (μ : WS) (Q : Int32 → WS → Prop) : Prop := (vp_in s1 7 ∧ (∀ μ8 : WS, μ8 = wset μ 37 s1.toNatClampNeg s0 → (vp_in v5 7 ∧ (vp_in ((7 * (μ8.1 37 v5.toNatClampNeg)) + v5) 49 ∧ (∀ x9 : Int32, x9 = v4 + (μ8.1 38 ((7 * (μ8.1 37 v5.toNatClampNeg)) + v5).toNatClampNeg) → w_X4_changesOf_100 P13 v2 v3 x9 v5 μ8 Q)))))
def w_X4_changesOf_13b (P13 : Int32 → Int32 → Int32 → Int32 → WS → Prop) (v2 : Int32) (v3 : Int32) (v4 : Int32) (v5 : Int32) (μ : WS) (Q : Int32 → WS → Prop) : Prop := ((v5 < 0) → w_X4_changesOf_109 v2 v4 0 μ Q) ∧ ((¬ v5 < 0) → (vp_in v5 7 ∧ (∀ μ3 : WS, μ3 = wset μ 37 v5.toNatClampNeg (-1) → ((¬ v5 = v2) → (¬ (μ3.1 0 63) - 1 = 0 ∧ (∀ x5 : Int32, x5 = v3 - v3 / ((μ3.1 0 63) - 1) * ((μ3.1 0 63) - 1) → (¬ (μ3.1 0 63) - 1 = 0 ∧ (∀ x6 : Int32, x6 = v3 / ((μ3.1 0 63) - 1) → ((v5 ≤ x5) → w_X4_changesOf_76 P13 (x5 + 1) v5 v2 x6 v4 v5 μ3 Q) ∧ ((¬ v5 ≤ x5) → w_X4_changesOf_76 P13 x5 v5 v2 x6 v4 v5 μ3 Q)))))) ∧ ((v5 = v2) → w_X4_changesOf_100 P13 v2 v3 v4 v5 μ3 Q))))
def w_X4_changesOf_13 (v2 : Int32) (v3 : Int32) (v4 : Int32) (v5 : Int32) (μ : WS) (Q : Int32 → WS → Prop) : Prop := ∀ P13 : Int32 → Int32 → Int32 → Int32 → WS → Prop, (∀ (v2 : Int32) (v3 : Int32) (v4 : Int32) (v5 : Int32) (μ : WS), w_X4_changesOf_13b  P13 v2 v3 v4 v5 μ Q → P13 v2 v3 v4 v5 μ) → P13 v2 v3 v4 v5 μ
def w_X4_changesOf (v1 : Int32) (v2 : Int32) (μ : WS) (Q : Int32 → WS → Prop) : Prop := (∀ x1 : Int32, x1 = (μ.1 0 63) - 1 → w_X4_changesOf_13 v2 v1 0 x1 μ Q)
abbrev rm_X4_changesOf : Room := { frames := 0, cells := 0, slots := 0, locals := 0 }
theorem mf_X4_changesOf : MFact yX4_changesOf 2 rm_X4_changesOf := ⟨by decide +kernel, rfl, rfl⟩
set_option maxHeartbeats 4000000 in
theorem met_X4_changesOf (l : Launch) (D : va_G) (ac : Nat → ClassId) (ad : Nat → Nat) (Ex : Heap → Prop) (hLay : LayOk ad knM) (hEx : ExOk ad knM Ex) (v1 : Int32) (v2 : Int32) (μ : WS) (Q : Int32 → WS → Prop) (h : w_X4_changesOf v1 v2 μ Q) : CMet l yX4_changesOf cX4_changesOf 8 (some .int) rm_X4_changesOf D ac ad knM Ex [.ref (ad 0), .int v1, .int v2] μ (qI Q) := by
  refine vv_met (lv := [(0, .ref (ad 0)), (1, .int v1), (2, .int v2)]) (by decide) hLay hEx (Nat.le_of_ble_eq_true rfl) rfl ⟨rfl, rfl⟩ (fun C hC hK hRm hLl hR hM => ?_)
  subst hLl
  have hRo : RoomOk (HPW D ac ad knM Ex (vS C)) (vR C) := HPW.room
  have L155 : ∀ (P109 : Int32 → Int32 → Int32 → WS → Prop) (h109 : ∀ (v2 : Int32) (v4 : Int32) (v5 : Int32) (μ : WS), P109 v2 v4 v5 μ → VV C 8 (HPW D ac ad knM Ex (vS C)) (vQ C (QcW D ac ad knM (qI Q)) 0 0 (inLay ad knM)) (μ, ()) 109 [(0, .ref (ad 0)), (2, .int v2), (4, .int v4), (5, .int v5)] []) (v2 : Int32) (v4 : Int32) (v5 : Int32) (v6 : Int32) (μ : WS), w_X4_changesOf_155 P109 v2 v4 v5 v6 μ Q → VV C 8 (HPW D ac ad knM Ex (vS C)) (vQ C (QcW D ac ad knM (qI Q)) 0 0 (inLay ad knM)) (μ, ()) 155 [(0, .ref (ad 0)), (2, .int v2), (4, .int v4), (5, .int v5), (6, .int v6)] [] := by
    intro P109 h109 v2 v4 v5 v6 μ h
    unfold w_X4_changesOf_155 at h
    refine vv_iload hC dX4_changesOf_155 4 rfl ?_
    refine vv_iload_n hC dX4_changesOf_157 rfl 1 rfl ?_
    refine vv_icmp_eq (tgt := 163) hC dX4_changesOf_158 rfl (fun c14 => ?_) (fun c14 => ?_)
    · replace h := h.1 c14
      refine vv_iinc (pl := 3) (v := v5 + 1) (lv' := [(5, .int (v5 + 1)), (0, .ref (ad 0)), (2, .int v2), (4, .int v4), (6, .int v6)]) hC dX4_changesOf_163 rfl rfl (by decide) rfl ?_
      refine vv_goto (tgt := 109) hC dX4_changesOf_166 rfl ?_
      refine vv_lv [1, 2, 3, 0] rfl ?_
      exact h109 _ _ _ _ h
    · replace h := h.2 c14
      refine vv_iconst hC dX4_changesOf_161 ic_m1 ?_
      exact vv_iret hC hM dX4_changesOf_162 h
  have L125 : ∀ (P109 : Int32 → Int32 → Int32 → WS → Prop) (h109 : ∀ (v2 : Int32) (v4 : Int32) (v5 : Int32) (μ : WS), P109 v2 v4 v5 μ → VV C 8 (HPW D ac ad knM Ex (vS C)) (vQ C (QcW D ac ad knM (qI Q)) 0 0 (inLay ad knM)) (μ, ()) 109 [(0, .ref (ad 0)), (2, .int v2), (4, .int v4), (5, .int v5)] []) (v2 : Int32) (v4 : Int32) (v5 : Int32) (v6 : Int32) (v7 : Int32) (μ : WS), w_X4_changesOf_125 P109 v2 v4 v5 v6 v7 μ Q → VV C 8 (HPW D ac ad knM Ex (vS C)) (vQ C (QcW D ac ad knM (qI Q)) 0 0 (inLay ad knM)) (μ, ()) 125 [(0, .ref (ad 0)), (2, .int v2), (4, .int v4), (5, .int v5), (6, .int v6), (7, .int v7)] [] := by
    intro P109 h109 v2 v4 v5 v6 v7 μ h
    refine h (fun v2 v4 v5 v6 v7 μ => VV C 8 (HPW D ac ad knM Ex (vS C)) (vQ C (QcW D ac ad knM (qI Q)) 0 0 (inLay ad knM)) (μ, ()) 125 [(0, .ref (ad 0)), (2, .int v2), (4, .int v4), (5, .int v5), (6, .int v6), (7, .int v7)] []) ?_
    clear h; intro v2 v4 v5 v6 v7 μ h
    have h125 : ∀ (v2 : Int32) (v4 : Int32) (v5 : Int32) (v6 : Int32) (v7 : Int32) (μ : WS), (fun v2 v4 v5 v6 v7 (μ : WS) => VV C 8 (HPW D ac ad knM Ex (vS C)) (vQ C (QcW D ac ad knM (qI Q)) 0 0 (inLay ad knM)) (μ, ()) 125 [(0, .ref (ad 0)), (2, .int v2), (4, .int v4), (5, .int v5), (6, .int v6), (7, .int v7)] []) v2 v4 v5 v6 v7 μ → VV C 8 (HPW D ac ad knM Ex (vS C)) (vQ C (QcW D ac ad knM (qI Q)) 0 0 (inLay ad knM)) (μ, ()) 125 [(0, .ref (ad 0)), (2, .int v2), (4, .int v4), (5, .int v5), (6, .int v6), (7, .int v7)] [] := fun _ _ _ _ _ _ h => h
    unfold w_X4_changesOf_125b at h
    refine vv_iload hC dX4_changesOf_125 5 rfl ?_
    refine vv_aload_n hC dX4_changesOf_127 rfl 0 rfl ?_
    refine vv_getf hC hR hK fa4_427 0 lm_0 (fm_63 ad _ _ _) dX4_changesOf_128 ?_
    refine vv_icmp_ge (tgt := 155) hC dX4_changesOf_131 rfl (fun c11 => ?_) (fun c11 => ?_)
    · replace h := h.1 c11
      refine vv_lv [0, 1, 2, 3, 4] rfl ?_
      exact L155 _ h109 _ _ _ _ _ h
    · replace h := h.2 c11
      refine vv_iload hC dX4_changesOf_134 4 rfl ?_
      refine vv_iload_n hC dX4_changesOf_136 rfl 1 rfl ?_
      refine vv_icmp_eq (tgt := 155) hC dX4_changesOf_137 rfl (fun c12 => ?_) (fun c12 => ?_)
      · replace h := h.1 c12
        refine vv_lv [0, 1, 2, 3, 4] rfl ?_
        exact L155 _ h109 _ _ _ _ _ h
      · replace h := h.2 c12
        refine vv_aload_n hC dX4_changesOf_140 rfl 0 rfl ?_
        refine vv_getf hC hR hK fa4_126 0 lm_0 (fm_61 ad _ _ _) dX4_changesOf_141 ?_
        refine vv_iload hC dX4_changesOf_144 4 rfl ?_
        obtain ⟨hin, h⟩ := h
        refine vv_iald hC hR hK 37 lm_37 hin dX4_changesOf_146 ?_
        refine vv_topi (fun x13 ex13 => ?_)
        replace h := h x13 ex13
        refine vv_istore (lv' := [(6, .int x13), (0, .ref (ad 0)), (2, .int v2), (4, .int v4), (5, .int v5), (7, .int v7)]) hC dX4_changesOf_147 (by decide) rfl ?_
        refine vv_iinc (pl := 5) (v := v7 + 1) (lv' := [(7, .int (v7 + 1)), (6, .int x13), (0, .ref (ad 0)), (2, .int v2), (4, .int v4), (5, .int v5)]) hC dX4_changesOf_149 rfl rfl (by decide) rfl ?_
        refine vv_goto (tgt := 125) hC dX4_changesOf_152 rfl ?_
        refine vv_lv [2, 3, 4, 5, 1, 0] rfl ?_
        exact h125 _ _ _ _ _ _ h
  have L109 : ∀ (v2 : Int32) (v4 : Int32) (v5 : Int32) (μ : WS), w_X4_changesOf_109  v2 v4 v5 μ Q → VV C 8 (HPW D ac ad knM Ex (vS C)) (vQ C (QcW D ac ad knM (qI Q)) 0 0 (inLay ad knM)) (μ, ()) 109 [(0, .ref (ad 0)), (2, .int v2), (4, .int v4), (5, .int v5)] [] := by
    intro  v2 v4 v5 μ h
    refine h (fun v2 v4 v5 μ => VV C 8 (HPW D ac ad knM Ex (vS C)) (vQ C (QcW D ac ad knM (qI Q)) 0 0 (inLay ad knM)) (μ, ()) 109 [(0, .ref (ad 0)), (2, .int v2), (4, .int v4), (5, .int v5)] []) ?_
    clear h; intro v2 v4 v5 μ h
    have h109 : ∀ (v2 : Int32) (v4 : Int32) (v5 : Int32) (μ : WS), (fun v2 v4 v5 (μ : WS) => VV C 8 (HPW D ac ad knM Ex (vS C)) (vQ C (QcW D ac ad knM (qI Q)) 0 0 (inLay ad knM)) (μ, ()) 109 [(0, .ref (ad 0)), (2, .int v2), (4, .int v4), (5, .int v5)] []) v2 v4 v5 μ → VV C 8 (HPW D ac ad knM Ex (vS C)) (vQ C (QcW D ac ad knM (qI Q)) 0 0 (inLay ad knM)) (μ, ()) 109 [(0, .ref (ad 0)), (2, .int v2), (4, .int v4), (5, .int v5)] [] := fun _ _ _ _ h => h
    unfold w_X4_changesOf_109b at h
    refine vv_iload hC dX4_changesOf_109 3 rfl ?_
    refine vv_aload_n hC dX4_changesOf_111 rfl 0 rfl ?_
    refine vv_getf hC hR hK fa4_427 0 lm_0 (fm_63 ad _ _ _) dX4_changesOf_112 ?_
    refine vv_icmp_ge (tgt := 169) hC dX4_changesOf_115 rfl (fun c10 => ?_) (fun c10 => ?_)
    · replace h := h.1 c10
      refine vv_iload hC dX4_changesOf_169 2 rfl ?_
      exact vv_iret hC hM dX4_changesOf_171 h
    · replace h := h.2 c10
      refine vv_iload hC dX4_changesOf_118 3 rfl ?_
      refine vv_istore (lv' := [(6, .int v5), (0, .ref (ad 0)), (2, .int v2), (4, .int v4), (5, .int v5)]) hC dX4_changesOf_120 (by decide) rfl ?_
      refine vv_iconst hC dX4_changesOf_122 ic_0 ?_
      refine vv_istore (lv' := [(7, .int 0), (6, .int v5), (0, .ref (ad 0)), (2, .int v2), (4, .int v4), (5, .int v5)]) hC dX4_changesOf_123 (by decide) rfl ?_
      refine vv_lv [2, 3, 4, 5, 1, 0] rfl ?_
      exact L125 _ h109 _ _ _ _ _ _ h
  have L100 : ∀ (P13 : Int32 → Int32 → Int32 → Int32 → WS → Prop) (h13 : ∀ (v2 : Int32) (v3 : Int32) (v4 : Int32) (v5 : Int32) (μ : WS), P13 v2 v3 v4 v5 μ → VV C 8 (HPW D ac ad knM Ex (vS C)) (vQ C (QcW D ac ad knM (qI Q)) 0 0 (inLay ad knM)) (μ, ()) 13 [(0, .ref (ad 0)), (2, .int v2), (3, .int v3), (4, .int v4), (5, .int v5)] []) (v2 : Int32) (v3 : Int32) (v4 : Int32) (v5 : Int32) (μ : WS), w_X4_changesOf_100 P13 v2 v3 v4 v5 μ Q → VV C 8 (HPW D ac ad knM Ex (vS C)) (vQ C (QcW D ac ad knM (qI Q)) 0 0 (inLay ad knM)) (μ, ()) 100 [(0, .ref (ad 0)), (2, .int v2), (3, .int v3), (4, .int v4), (5, .int v5)] [] := by
    intro P13 h13 v2 v3 v4 v5 μ h
    unfold w_X4_changesOf_100 at h
    refine vv_iinc (pl := 4) (v := v5 + (-1)) (lv' := [(5, .int (v5 + (-1))), (0, .ref (ad 0)), (2, .int v2), (3, .int v3), (4, .int v4)]) hC dX4_changesOf_100 rfl rfl (by decide) rfl ?_
    refine vv_goto (tgt := 13) hC dX4_changesOf_103 rfl ?_
    refine vv_lv [1, 2, 3, 4, 0] rfl ?_
    exact h13 _ _ _ _ _ h
  have L76 : ∀ (P13 : Int32 → Int32 → Int32 → Int32 → WS → Prop) (h13 : ∀ (v2 : Int32) (v3 : Int32) (v4 : Int32) (v5 : Int32) (μ : WS), P13 v2 v3 v4 v5 μ → VV C 8 (HPW D ac ad knM Ex (vS C)) (vQ C (QcW D ac ad knM (qI Q)) 0 0 (inLay ad knM)) (μ, ()) 13 [(0, .ref (ad 0)), (2, .int v2), (3, .int v3), (4, .int v4), (5, .int v5)] []) (s0 : Int32) (s1 : Int32) (v2 : Int32) (v3 : Int32) (v4 : Int32) (v5 : Int32) (μ : WS), w_X4_changesOf_76 P13 s0 s1 v2 v3 v4 v5 μ Q → VV C 8 (HPW D ac ad knM Ex (vS C)) (vQ C (QcW D ac ad knM (qI Q)) 0 0 (inLay ad knM)) (μ, ()) 76 [(0, .ref (ad 0)), (2, .int v2), (3, .int v3), (4, .int v4), (5, .int v5)] [.int s0, .int s1, .ref (ad 37)] := by
    intro P13 h13 s0 s1 v2 v3 v4 v5 μ h
    unfold w_X4_changesOf_76 at h
    obtain ⟨hin, h⟩ := h
    refine vv_iast hC hR hK 37 lm_37 hin dX4_changesOf_76 ?_
    refine vv_st (fun y e => ?_)
    obtain ⟨μ8, _⟩ := y
    have eμ8 := congrArg Prod.fst e
    clear e
    replace h := h μ8 eμ8
    refine vv_iload hC dX4_changesOf_77 3 rfl ?_
    refine vv_aload_n hC dX4_changesOf_79 rfl 0 rfl ?_
    refine vv_getf hC hR hK fa4_129 0 lm_0 (fm_62 ad _ _ _) dX4_changesOf_80 ?_
    refine vv_bipush hC dX4_changesOf_83 bp_7 ?_
    refine vv_aload_n hC dX4_changesOf_85 rfl 0 rfl ?_
    refine vv_getf hC hR hK fa4_126 0 lm_0 (fm_61 ad _ _ _) dX4_changesOf_86 ?_
    refine vv_iload hC dX4_changesOf_89 4 rfl ?_
    obtain ⟨hin, h⟩ := h
    refine vv_iald hC hR hK 37 lm_37 hin dX4_changesOf_91 ?_
    refine vv_imul hC dX4_changesOf_92 ?_
    refine vv_iload hC dX4_changesOf_93 4 rfl ?_
    refine vv_iadd hC dX4_changesOf_95 ?_
    obtain ⟨hin, h⟩ := h
    refine vv_iald hC hR hK 38 lm_38 hin dX4_changesOf_96 ?_
    refine vv_iadd hC dX4_changesOf_97 ?_
    refine vv_topi (fun x9 ex9 => ?_)
    replace h := h x9 ex9
    refine vv_istore (lv' := [(4, .int x9), (0, .ref (ad 0)), (2, .int v2), (3, .int v3), (5, .int v5)]) hC dX4_changesOf_98 (by decide) rfl ?_
    refine vv_lv [1, 2, 3, 0, 4] rfl ?_
    exact L100 _ h13 _ _ _ _ _ h
  have L13 : ∀ (v2 : Int32) (v3 : Int32) (v4 : Int32) (v5 : Int32) (μ : WS), w_X4_changesOf_13  v2 v3 v4 v5 μ Q → VV C 8 (HPW D ac ad knM Ex (vS C)) (vQ C (QcW D ac ad knM (qI Q)) 0 0 (inLay ad knM)) (μ, ()) 13 [(0, .ref (ad 0)), (2, .int v2), (3, .int v3), (4, .int v4), (5, .int v5)] [] := by
    intro  v2 v3 v4 v5 μ h
    refine h (fun v2 v3 v4 v5 μ => VV C 8 (HPW D ac ad knM Ex (vS C)) (vQ C (QcW D ac ad knM (qI Q)) 0 0 (inLay ad knM)) (μ, ()) 13 [(0, .ref (ad 0)), (2, .int v2), (3, .int v3), (4, .int v4), (5, .int v5)] []) ?_
    clear h; intro v2 v3 v4 v5 μ h
    have h13 : ∀ (v2 : Int32) (v3 : Int32) (v4 : Int32) (v5 : Int32) (μ : WS), (fun v2 v3 v4 v5 (μ : WS) => VV C 8 (HPW D ac ad knM Ex (vS C)) (vQ C (QcW D ac ad knM (qI Q)) 0 0 (inLay ad knM)) (μ, ()) 13 [(0, .ref (ad 0)), (2, .int v2), (3, .int v3), (4, .int v4), (5, .int v5)] []) v2 v3 v4 v5 μ → VV C 8 (HPW D ac ad knM Ex (vS C)) (vQ C (QcW D ac ad knM (qI Q)) 0 0 (inLay ad knM)) (μ, ()) 13 [(0, .ref (ad 0)), (2, .int v2), (3, .int v3), (4, .int v4), (5, .int v5)] [] := fun _ _ _ _ _ h => h
    unfold w_X4_changesOf_13b at h
    refine vv_iload hC dX4_changesOf_13 4 rfl ?_
    refine vv_if_lt (tgt := 106) hC dX4_changesOf_15 rfl (fun c2 => ?_) (fun c2 => ?_)
    · replace h := h.1 c2
      refine vv_iconst hC dX4_changesOf_106 ic_0 ?_
      refine vv_istore (lv' := [(5, .int 0), (0, .ref (ad 0)), (2, .int v2), (3, .int v3), (4, .int v4)]) hC dX4_changesOf_107 (by decide) rfl ?_
      refine vv_lv [1, 2, 4, 0] rfl ?_
      exact L109  _ _ _ _ h
    · replace h := h.2 c2
      refine vv_aload_n hC dX4_changesOf_18 rfl 0 rfl ?_
      refine vv_getf hC hR hK fa4_126 0 lm_0 (fm_61 ad _ _ _) dX4_changesOf_19 ?_
      refine vv_iload hC dX4_changesOf_22 4 rfl ?_
      refine vv_iconst hC dX4_changesOf_24 ic_m1 ?_
      obtain ⟨hin, h⟩ := h
      refine vv_iast hC hR hK 37 lm_37 hin dX4_changesOf_25 ?_
      refine vv_st (fun y e => ?_)
      obtain ⟨μ3, _⟩ := y
      have eμ3 := congrArg Prod.fst e
      clear e
      replace h := h μ3 eμ3
      refine vv_iload hC dX4_changesOf_26 4 rfl ?_
      refine vv_iload_n hC dX4_changesOf_28 rfl 1 rfl ?_
      refine vv_icmp_ne (tgt := 35) hC dX4_changesOf_29 rfl (fun c4 => ?_) (fun c4 => ?_)
      · replace h := h.1 c4
        refine vv_iload_n hC dX4_changesOf_35 rfl 2 rfl ?_
        refine vv_aload_n hC dX4_changesOf_36 rfl 0 rfl ?_
        refine vv_getf hC hR hK fa4_427 0 lm_0 (fm_63 ad _ _ _) dX4_changesOf_37 ?_
        refine vv_iconst hC dX4_changesOf_40 ic_1 ?_
        refine vv_isub hC dX4_changesOf_41 ?_
        obtain ⟨hne, h⟩ := h
        refine vv_irem hC dX4_changesOf_42 hne ?_
        refine vv_topi (fun x5 ex5 => ?_)
        replace h := h x5 ex5
        refine vv_istore (lv' := [(6, .int x5), (0, .ref (ad 0)), (2, .int v2), (3, .int v3), (4, .int v4), (5, .int v5)]) hC dX4_changesOf_43 (by decide) rfl ?_
        refine vv_iload_n hC dX4_changesOf_45 rfl 3 rfl ?_
        refine vv_aload_n hC dX4_changesOf_46 rfl 1 rfl ?_
        refine vv_getf hC hR hK fa4_427 0 lm_0 (fm_63 ad _ _ _) dX4_changesOf_47 ?_
        refine vv_iconst hC dX4_changesOf_50 ic_1 ?_
        refine vv_isub hC dX4_changesOf_51 ?_
        obtain ⟨hne, h⟩ := h
        refine vv_idiv hC dX4_changesOf_52 hne ?_
        refine vv_topi (fun x6 ex6 => ?_)
        replace h := h x6 ex6
        refine vv_istore_n (lv' := [(3, .int x6), (6, .int x5), (0, .ref (ad 0)), (2, .int v2), (4, .int v4), (5, .int v5)]) hC dX4_changesOf_53 rfl (by decide) rfl ?_
        refine vv_aload_n hC dX4_changesOf_54 rfl 2 rfl ?_
        refine vv_getf hC hR hK fa4_126 0 lm_0 (fm_61 ad _ _ _) dX4_changesOf_55 ?_
        refine vv_iload hC dX4_changesOf_58 5 rfl ?_
        refine vv_iload hC dX4_changesOf_60 1 rfl ?_
        refine vv_iload hC dX4_changesOf_62 5 rfl ?_
        refine vv_icmp_ge (tgt := 72) hC dX4_changesOf_64 rfl (fun c7 => ?_) (fun c7 => ?_)
        · replace h := h.1 c7
          refine vv_iload hC dX4_changesOf_72 1 rfl ?_
          refine vv_iconst hC dX4_changesOf_74 ic_1 ?_
          refine vv_iadd hC dX4_changesOf_75 ?_
          refine vv_lv [2, 3, 0, 4, 5] rfl ?_
          exact L76 _ h13 _ _ _ _ _ _ _ h
        · replace h := h.2 c7
          refine vv_iload hC dX4_changesOf_67 1 rfl ?_
          refine vv_goto (tgt := 76) hC dX4_changesOf_69 rfl ?_
          refine vv_lv [2, 3, 0, 4, 5] rfl ?_
          exact L76 _ h13 _ _ _ _ _ _ _ h
      · replace h := h.2 c4
        refine vv_goto (tgt := 100) hC dX4_changesOf_32 rfl ?_
        exact L100 _ h13 _ _ _ _ _ h
  unfold w_X4_changesOf at h
  refine vv_iload_n hC dX4_changesOf_0 rfl 1 rfl ?_
  refine vv_istore_n (lv' := [(3, .int v1), (0, .ref (ad 0)), (1, .int v1), (2, .int v2)]) hC dX4_changesOf_1 rfl (by decide) rfl ?_
  refine vv_iconst hC dX4_changesOf_2 ic_0 ?_
  refine vv_istore (lv' := [(4, .int 0), (3, .int v1), (0, .ref (ad 0)), (1, .int v1), (2, .int v2)]) hC dX4_changesOf_3 (by decide) rfl ?_
  refine vv_aload_n hC dX4_changesOf_5 rfl 2 rfl ?_
  refine vv_getf hC hR hK fa4_427 0 lm_0 (fm_63 ad _ _ _) dX4_changesOf_6 ?_
  refine vv_iconst hC dX4_changesOf_9 ic_1 ?_
  refine vv_isub hC dX4_changesOf_10 ?_
  refine vv_topi (fun x1 ex1 => ?_)
  replace h := h x1 ex1
  refine vv_istore (lv' := [(5, .int x1), (4, .int 0), (3, .int v1), (0, .ref (ad 0)), (1, .int v1), (2, .int v2)]) hC dX4_changesOf_11 (by decide) rfl ?_
  refine vv_lv [3, 5, 2, 1, 0] rfl ?_
  exact L13  _ _ _ _ _ h
def w_X4_tree_176 (P76 : Int32 → Int32 → Int32 → Int32 → Int32 → Int32 → WS → Prop) (v1 : Int32) (v2 : Int32) (v4 : Int32) (v5 : Int32) (v6 : Int32) (v7 : Int32) (μ : WS) (Q : Int32 → WS → Prop) : Prop := P76 v1 v2 v4 v5 v6 (v7 + 1) μ
def w_X4_tree_172 (P76 : Int32 → Int32 → Int32 → Int32 → Int32 → Int32 → WS → Prop) (v1 : Int32) (v2 : Int32) (v4 : Int32) (v6 : Int32) (v7 : Int32) (v8 : Int32) (μ : WS) (Q : Int32 → WS → Prop) : Prop := w_X4_tree_176 P76 v1 v2 v4 v8 v6 v7 μ Q
def w_X4_tree_143b (P76 : Int32 → Int32 → Int32 → Int32 → Int32 → Int32 → WS → Prop) (P143 : Int32 → Int32 → Int32 → Int32 → Int32 → Int32 → Int32 → WS → Prop) (v1 : Int32) (v2 : Int32) (v4 : Int32) (v6 : Int32) (v7 : Int32) (v8 : Int32) (v9 : Int32) (μ : WS) (Q : Int32 → WS → Prop) : Prop := ((μ.1 0 63 ≤ v9) → w_X4_tree_172 P76 v1 v2 v4 v6 v7 v8 μ Q) ∧ ((¬ μ.1 0 63 ≤ v9) → (vp_in v9 7 ∧ (vp_in v9 12 ∧ (∀ μ24 : WS, μ24 = wset μ 26 v9.toNatClampNeg (μ.1 37 v9.toNatClampNeg) → P143 v1 v2 v4 v6 v7 v8 (v9 + 1) μ24))))
def w_X4_tree_143 (P76 : Int32 → Int32 → Int32 → Int32 → Int32 → Int32 → WS → Prop) (v1 : Int32) (v2 : Int32) (v4 : Int32) (v6 : Int32) (v7 : Int32) (v8 : Int32) (v9 : Int32) (μ : WS) (Q : Int32 → WS → Prop) : Prop := ∀ P143 : Int32 → Int32 → Int32 → Int32 → Int32 → Int32 → Int32 → WS → Prop, (∀ (v1 : Int32) (v2 : Int32) (v4 : Int32) (v6 : Int32) (v7 : Int32) (v8 : Int32) (v9 : Int32) (μ : WS), w_X4_tree_143b P76 P143 v1 v2 v4 v6 v7 v8 v9 μ Q → P143 v1 v2 v4 v6 v7 v8 v9 μ) → P143 v1 v2 v4 v6 v7 v8 v9 μ
def w_X4_tree_132 (P76 : Int32 → Int32 → Int32 → Int32 → Int32 → Int32 → WS → Prop) (s0 : Int32) (v1 : Int32) (v2 : Int32) (v4 : Int32) (v7 : Int32) (v8 : Int32) (μ : WS) (Q : Int32 → WS → Prop) : Prop := ((¬ s0 = 1) → w_X4_tree_172 P76 v1 v2 v4 s0 v7 v8 μ Q) ∧ ((s0 = 1) → w_X4_tree_143 P76 v1 v2 v4 s0 v7 v8 0 μ Q)
def w_X4_tree_124 (P76 : Int32 → Int32 → Int32 → Int32 → Int32 → Int32 → WS → Prop) (v1 : Int32) (v2 : Int32) (v4 : Int32) (v7 : Int32) (v8 : Int32) (μ : WS) (Q : Int32 → WS → Prop) : Prop := w_X4_tree_132 P76 1 v1 v2 v4 v7 v8 μ Q
def w_X4_tree_112 (P76 : Int32 → Int32 → Int32 → Int32 → Int32 → Int32 → WS → Prop) (v1 : Int32) (v2 : Int32) (v4 : Int32) (v5 : Int32) (v6 : Int32) (v7 : Int32) (v8 : Int32) (μ : WS) (Q : Int32 → WS → Prop) : Prop := ((v5 < 0) → w_X4_tree_124 P76 v1 v2 v4 v7 v8 μ Q) ∧ ((¬ v5 < 0) → ((v5 ≤ v8) → w_X4_tree_132 P76 (v6 + 1) v1 v2 v4 v7 v8 μ Q) ∧ ((¬ v5 ≤ v8) → w_X4_tree_124 P76 v1 v2 v4 v7 v8 μ Q))
def w_X4_tree_76b (P76 : Int32 → Int32 → Int32 → Int32 → Int32 → Int32 → WS → Prop) (v1 : Int32) (v2 : Int32) (v4 : Int32) (v5 : Int32) (v6 : Int32) (v7 : Int32) (μ : WS) (Q : Int32 → WS → Prop) : Prop := ((v4 ≤ v7) → (∀ μ13 : WS, μ13 = wset μ 0 48 (μ.1 0 63) → ((¬ v2 = 0) → Q v6 μ13) ∧ ((v2 = 0) → Q v5 μ13))) ∧ ((¬ v4 ≤ v7) → (w_X4_changesOf v7 v1 μ (fun r16 μ15 => ((r16 < 0) → w_X4_tree_176 P76 v1 v2 v4 v5 v6 v7 μ15 Q) ∧ ((¬ r16 < 0) → ((v5 < 0) → w_X4_tree_112 P76 v1 v2 v4 v5 v6 v7 r16 μ15 Q) ∧ ((¬ v5 < 0) → ((r16 ≤ v5) → w_X4_tree_112 P76 v1 v2 v4 v5 v6 v7 r16 μ15 Q) ∧ ((¬ r16 ≤ v5) → w_X4_tree_176 P76 v1 v2 v4 v5 v6 v7 μ15 Q))))))
def w_X4_tree_76 (v1 : Int32) (v2 : Int32) (v4 : Int32) (v5 : Int32) (v6 : Int32) (v7 : Int32) (μ : WS) (Q : Int32 → WS → Prop) : Prop := ∀ P76 : Int32 → Int32 → Int32 → Int32 → Int32 → Int32 → WS → Prop, (∀ (v1 : Int32) (v2 : Int32) (v4 : Int32) (v5 : Int32) (v6 : Int32) (v7 : Int32) (μ : WS), w_X4_tree_76b  P76 v1 v2 v4 v5 v6 v7 μ Q → P76 v1 v2 v4 v5 v6 v7 μ) → P76 v1 v2 v4 v5 v6 v7 μ
def w_X4_tree_41b (P41 : Int32 → Int32 → Int32 → Int32 → WS → Prop) (v1 : Int32) (v2 : Int32) (v4 : Int32) (v5 : Int32) (μ : WS) (Q : Int32 → WS → Prop) : Prop := ((μ.1 0 63 ≤ v5) → w_X4_tree_76 v1 v2 v4 (-1) 0 0 μ Q) ∧ ((¬ μ.1 0 63 ≤ v5) → (∀ x11 : Int32, x11 = v4 * ((μ.1 0 63) - 1) → P41 v1 v2 x11 (v5 + 1) μ))
def w_X4_tree_41 (v1 : Int32) (v2 : Int32) (v4 : Int32) (v5 : Int32) (μ : WS) (Q : Int32 → WS → Prop) : Prop := ∀ P41 : Int32 → Int32 → Int32 → Int32 → WS → Prop, (∀ (v1 : Int32) (v2 : Int32) (v4 : Int32) (v5 : Int32) (μ : WS), w_X4_tree_41b  P41 v1 v2 v4 v5 μ Q → P41 v1 v2 v4 v5 μ) → P41 v1 v2 v4 v5 μ
def w_X4_tree (v1 : Int32) (v2 : Int32) (v3 : Int32) (μ : WS) (Q : Int32 → WS → Prop) : Prop := (∀ μ1 : WS, μ1 = wset μ 0 48 0 → (w_X4_laySamples v3 μ1 (fun μ2 => (w_X4_isIn v1 0 ((μ2.1 0 63) - 1) μ2 (fun r5 μ4 => ((r5 = 0) → Q (-1) μ4) ∧ ((¬ r5 = 0) → (w_X4_isIn v2 0 1 μ4 (fun r8 μ7 => ((¬ r8 = 0) → w_X4_tree_41 v1 v2 1 1 μ7 Q) ∧ ((r8 = 0) → Q (-1) μ7)))))))))
abbrev rm_X4_tree : Room := { frames := 3, cells := 0, slots := 0, locals := 67 }
theorem mf_X4_tree : MFact yX4_tree 3 rm_X4_tree := ⟨by decide +kernel, rfl, rfl⟩
set_option maxHeartbeats 4000000 in
theorem met_X4_tree (l : Launch) (D : va_G) (ac : Nat → ClassId) (ad : Nat → Nat) (Ex : Heap → Prop) (hLay : LayOk ad knM) (hEx : ExOk ad knM Ex) (v1 : Int32) (v2 : Int32) (v3 : Int32) (μ : WS) (Q : Int32 → WS → Prop) (h : w_X4_tree v1 v2 v3 μ Q) : CMet l yX4_tree cX4_tree 10 (some .int) rm_X4_tree D ac ad knM Ex [.ref (ad 0), .int v1, .int v2, .int v3] μ (qI Q) := by
  refine vv_met (lv := [(0, .ref (ad 0)), (1, .int v1), (2, .int v2), (3, .int v3)]) (by decide) hLay hEx (Nat.le_of_ble_eq_true rfl) rfl ⟨rfl, rfl⟩ (fun C hC hK hRm hLl hR hM => ?_)
  subst hLl
  have hRo : RoomOk (HPW D ac ad knM Ex (vS C)) (vR C) := HPW.room
  have L176 : ∀ (P76 : Int32 → Int32 → Int32 → Int32 → Int32 → Int32 → WS → Prop) (h76 : ∀ (v1 : Int32) (v2 : Int32) (v4 : Int32) (v5 : Int32) (v6 : Int32) (v7 : Int32) (μ : WS), P76 v1 v2 v4 v5 v6 v7 μ → VV C 10 (HPW D ac ad knM Ex (vS C)) (vQ C (QcW D ac ad knM (qI Q)) 0 0 (inLay ad knM)) (μ, ()) 76 [(0, .ref (ad 0)), (1, .int v1), (2, .int v2), (4, .int v4), (5, .int v5), (6, .int v6), (7, .int v7)] []) (v1 : Int32) (v2 : Int32) (v4 : Int32) (v5 : Int32) (v6 : Int32) (v7 : Int32) (μ : WS), w_X4_tree_176 P76 v1 v2 v4 v5 v6 v7 μ Q → VV C 10 (HPW D ac ad knM Ex (vS C)) (vQ C (QcW D ac ad knM (qI Q)) 0 0 (inLay ad knM)) (μ, ()) 176 [(0, .ref (ad 0)), (1, .int v1), (2, .int v2), (4, .int v4), (5, .int v5), (6, .int v6), (7, .int v7)] [] := by
    intro P76 h76 v1 v2 v4 v5 v6 v7 μ h
    unfold w_X4_tree_176 at h
    refine vv_iinc (pl := 6) (v := v7 + 1) (lv' := [(7, .int (v7 + 1)), (0, .ref (ad 0)), (1, .int v1), (2, .int v2), (4, .int v4), (5, .int v5), (6, .int v6)]) hC dX4_tree_176 rfl rfl (by decide) rfl ?_
    refine vv_goto (tgt := 76) hC dX4_tree_179 rfl ?_
    refine vv_lv [1, 2, 3, 4, 5, 6, 0] rfl ?_
    exact h76 _ _ _ _ _ _ _ h
  have L172 : ∀ (P76 : Int32 → Int32 → Int32 → Int32 → Int32 → Int32 → WS → Prop) (h76 : ∀ (v1 : Int32) (v2 : Int32) (v4 : Int32) (v5 : Int32) (v6 : Int32) (v7 : Int32) (μ : WS), P76 v1 v2 v4 v5 v6 v7 μ → VV C 10 (HPW D ac ad knM Ex (vS C)) (vQ C (QcW D ac ad knM (qI Q)) 0 0 (inLay ad knM)) (μ, ()) 76 [(0, .ref (ad 0)), (1, .int v1), (2, .int v2), (4, .int v4), (5, .int v5), (6, .int v6), (7, .int v7)] []) (v1 : Int32) (v2 : Int32) (v4 : Int32) (v6 : Int32) (v7 : Int32) (v8 : Int32) (μ : WS), w_X4_tree_172 P76 v1 v2 v4 v6 v7 v8 μ Q → VV C 10 (HPW D ac ad knM Ex (vS C)) (vQ C (QcW D ac ad knM (qI Q)) 0 0 (inLay ad knM)) (μ, ()) 172 [(0, .ref (ad 0)), (1, .int v1), (2, .int v2), (4, .int v4), (6, .int v6), (7, .int v7), (8, .int v8)] [] := by
    intro P76 h76 v1 v2 v4 v6 v7 v8 μ h
    unfold w_X4_tree_172 at h
    refine vv_iload hC dX4_tree_172 6 rfl ?_
    refine vv_istore (lv' := [(5, .int v8), (0, .ref (ad 0)), (1, .int v1), (2, .int v2), (4, .int v4), (6, .int v6), (7, .int v7), (8, .int v8)]) hC dX4_tree_174 (by decide) rfl ?_
    refine vv_lv [1, 2, 3, 4, 0, 5, 6] rfl ?_
    exact L176 _ h76 _ _ _ _ _ _ _ h
  have L143 : ∀ (P76 : Int32 → Int32 → Int32 → Int32 → Int32 → Int32 → WS → Prop) (h76 : ∀ (v1 : Int32) (v2 : Int32) (v4 : Int32) (v5 : Int32) (v6 : Int32) (v7 : Int32) (μ : WS), P76 v1 v2 v4 v5 v6 v7 μ → VV C 10 (HPW D ac ad knM Ex (vS C)) (vQ C (QcW D ac ad knM (qI Q)) 0 0 (inLay ad knM)) (μ, ()) 76 [(0, .ref (ad 0)), (1, .int v1), (2, .int v2), (4, .int v4), (5, .int v5), (6, .int v6), (7, .int v7)] []) (v1 : Int32) (v2 : Int32) (v4 : Int32) (v6 : Int32) (v7 : Int32) (v8 : Int32) (v9 : Int32) (μ : WS), w_X4_tree_143 P76 v1 v2 v4 v6 v7 v8 v9 μ Q → VV C 10 (HPW D ac ad knM Ex (vS C)) (vQ C (QcW D ac ad knM (qI Q)) 0 0 (inLay ad knM)) (μ, ()) 143 [(0, .ref (ad 0)), (1, .int v1), (2, .int v2), (4, .int v4), (6, .int v6), (7, .int v7), (8, .int v8), (9, .int v9)] [] := by
    intro P76 h76 v1 v2 v4 v6 v7 v8 v9 μ h
    refine h (fun v1 v2 v4 v6 v7 v8 v9 μ => VV C 10 (HPW D ac ad knM Ex (vS C)) (vQ C (QcW D ac ad knM (qI Q)) 0 0 (inLay ad knM)) (μ, ()) 143 [(0, .ref (ad 0)), (1, .int v1), (2, .int v2), (4, .int v4), (6, .int v6), (7, .int v7), (8, .int v8), (9, .int v9)] []) ?_
    clear h; intro v1 v2 v4 v6 v7 v8 v9 μ h
    have h143 : ∀ (v1 : Int32) (v2 : Int32) (v4 : Int32) (v6 : Int32) (v7 : Int32) (v8 : Int32) (v9 : Int32) (μ : WS), (fun v1 v2 v4 v6 v7 v8 v9 (μ : WS) => VV C 10 (HPW D ac ad knM Ex (vS C)) (vQ C (QcW D ac ad knM (qI Q)) 0 0 (inLay ad knM)) (μ, ()) 143 [(0, .ref (ad 0)), (1, .int v1), (2, .int v2), (4, .int v4), (6, .int v6), (7, .int v7), (8, .int v8), (9, .int v9)] []) v1 v2 v4 v6 v7 v8 v9 μ → VV C 10 (HPW D ac ad knM Ex (vS C)) (vQ C (QcW D ac ad knM (qI Q)) 0 0 (inLay ad knM)) (μ, ()) 143 [(0, .ref (ad 0)), (1, .int v1), (2, .int v2), (4, .int v4), (6, .int v6), (7, .int v7), (8, .int v8), (9, .int v9)] [] := fun _ _ _ _ _ _ _ _ h => h
    unfold w_X4_tree_143b at h
    refine vv_iload hC dX4_tree_143 7 rfl ?_
    refine vv_aload_n hC dX4_tree_145 rfl 0 rfl ?_
    refine vv_getf hC hR hK fa4_427 0 lm_0 (fm_63 ad _ _ _) dX4_tree_146 ?_
    refine vv_icmp_ge (tgt := 172) hC dX4_tree_149 rfl (fun c23 => ?_) (fun c23 => ?_)
    · replace h := h.1 c23
      refine vv_lv [0, 1, 2, 3, 4, 5, 6] rfl ?_
      exact L172 _ h76 _ _ _ _ _ _ _ h
    · replace h := h.2 c23
      refine vv_aload_n hC dX4_tree_152 rfl 0 rfl ?_
      refine vv_getf hC hR hK fa4_92 0 lm_0 (fm_47 ad _ _ _) dX4_tree_153 ?_
      refine vv_iload hC dX4_tree_156 7 rfl ?_
      refine vv_aload_n hC dX4_tree_158 rfl 0 rfl ?_
      refine vv_getf hC hR hK fa4_126 0 lm_0 (fm_61 ad _ _ _) dX4_tree_159 ?_
      refine vv_iload hC dX4_tree_162 7 rfl ?_
      obtain ⟨hin, h⟩ := h
      refine vv_iald hC hR hK 37 lm_37 hin dX4_tree_164 ?_
      obtain ⟨hin, h⟩ := h
      refine vv_iast hC hR hK 26 lm_26 hin dX4_tree_165 ?_
      refine vv_st (fun y e => ?_)
      obtain ⟨μ24, _⟩ := y
      have eμ24 := congrArg Prod.fst e
      clear e
      replace h := h μ24 eμ24
      refine vv_iinc (pl := 7) (v := v9 + 1) (lv' := [(9, .int (v9 + 1)), (0, .ref (ad 0)), (1, .int v1), (2, .int v2), (4, .int v4), (6, .int v6), (7, .int v7), (8, .int v8)]) hC dX4_tree_166 rfl rfl (by decide) rfl ?_
      refine vv_goto (tgt := 143) hC dX4_tree_169 rfl ?_
      refine vv_lv [1, 2, 3, 4, 5, 6, 7, 0] rfl ?_
      exact h143 _ _ _ _ _ _ _ _ h
  have L132 : ∀ (P76 : Int32 → Int32 → Int32 → Int32 → Int32 → Int32 → WS → Prop) (h76 : ∀ (v1 : Int32) (v2 : Int32) (v4 : Int32) (v5 : Int32) (v6 : Int32) (v7 : Int32) (μ : WS), P76 v1 v2 v4 v5 v6 v7 μ → VV C 10 (HPW D ac ad knM Ex (vS C)) (vQ C (QcW D ac ad knM (qI Q)) 0 0 (inLay ad knM)) (μ, ()) 76 [(0, .ref (ad 0)), (1, .int v1), (2, .int v2), (4, .int v4), (5, .int v5), (6, .int v6), (7, .int v7)] []) (s0 : Int32) (v1 : Int32) (v2 : Int32) (v4 : Int32) (v7 : Int32) (v8 : Int32) (μ : WS), w_X4_tree_132 P76 s0 v1 v2 v4 v7 v8 μ Q → VV C 10 (HPW D ac ad knM Ex (vS C)) (vQ C (QcW D ac ad knM (qI Q)) 0 0 (inLay ad knM)) (μ, ()) 132 [(0, .ref (ad 0)), (1, .int v1), (2, .int v2), (4, .int v4), (7, .int v7), (8, .int v8)] [.int s0] := by
    intro P76 h76 s0 v1 v2 v4 v7 v8 μ h
    unfold w_X4_tree_132 at h
    refine vv_istore (lv' := [(6, .int s0), (0, .ref (ad 0)), (1, .int v1), (2, .int v2), (4, .int v4), (7, .int v7), (8, .int v8)]) hC dX4_tree_132 (by decide) rfl ?_
    refine vv_iload hC dX4_tree_134 0 rfl ?_
    refine vv_iconst hC dX4_tree_136 ic_1 ?_
    refine vv_icmp_ne (tgt := 172) hC dX4_tree_137 rfl (fun c22 => ?_) (fun c22 => ?_)
    · replace h := h.1 c22
      refine vv_lv [1, 2, 3, 4, 0, 5, 6] rfl ?_
      exact L172 _ h76 _ _ _ _ _ _ _ h
    · replace h := h.2 c22
      refine vv_iconst hC dX4_tree_140 ic_0 ?_
      refine vv_istore (lv' := [(9, .int 0), (6, .int s0), (0, .ref (ad 0)), (1, .int v1), (2, .int v2), (4, .int v4), (7, .int v7), (8, .int v8)]) hC dX4_tree_141 (by decide) rfl ?_
      refine vv_lv [2, 3, 4, 5, 1, 6, 7, 0] rfl ?_
      exact L143 _ h76 _ _ _ _ _ _ _ _ h
  have L124 : ∀ (P76 : Int32 → Int32 → Int32 → Int32 → Int32 → Int32 → WS → Prop) (h76 : ∀ (v1 : Int32) (v2 : Int32) (v4 : Int32) (v5 : Int32) (v6 : Int32) (v7 : Int32) (μ : WS), P76 v1 v2 v4 v5 v6 v7 μ → VV C 10 (HPW D ac ad knM Ex (vS C)) (vQ C (QcW D ac ad knM (qI Q)) 0 0 (inLay ad knM)) (μ, ()) 76 [(0, .ref (ad 0)), (1, .int v1), (2, .int v2), (4, .int v4), (5, .int v5), (6, .int v6), (7, .int v7)] []) (v1 : Int32) (v2 : Int32) (v4 : Int32) (v7 : Int32) (v8 : Int32) (μ : WS), w_X4_tree_124 P76 v1 v2 v4 v7 v8 μ Q → VV C 10 (HPW D ac ad knM Ex (vS C)) (vQ C (QcW D ac ad knM (qI Q)) 0 0 (inLay ad knM)) (μ, ()) 124 [(0, .ref (ad 0)), (1, .int v1), (2, .int v2), (4, .int v4), (7, .int v7), (8, .int v8)] [] := by
    intro P76 h76 v1 v2 v4 v7 v8 μ h
    unfold w_X4_tree_124 at h
    refine vv_iconst hC dX4_tree_124 ic_1 ?_
    refine vv_goto (tgt := 132) hC dX4_tree_125 rfl ?_
    exact L132 _ h76 _ _ _ _ _ _ _ h
  have L112 : ∀ (P76 : Int32 → Int32 → Int32 → Int32 → Int32 → Int32 → WS → Prop) (h76 : ∀ (v1 : Int32) (v2 : Int32) (v4 : Int32) (v5 : Int32) (v6 : Int32) (v7 : Int32) (μ : WS), P76 v1 v2 v4 v5 v6 v7 μ → VV C 10 (HPW D ac ad knM Ex (vS C)) (vQ C (QcW D ac ad knM (qI Q)) 0 0 (inLay ad knM)) (μ, ()) 76 [(0, .ref (ad 0)), (1, .int v1), (2, .int v2), (4, .int v4), (5, .int v5), (6, .int v6), (7, .int v7)] []) (v1 : Int32) (v2 : Int32) (v4 : Int32) (v5 : Int32) (v6 : Int32) (v7 : Int32) (v8 : Int32) (μ : WS), w_X4_tree_112 P76 v1 v2 v4 v5 v6 v7 v8 μ Q → VV C 10 (HPW D ac ad knM Ex (vS C)) (vQ C (QcW D ac ad knM (qI Q)) 0 0 (inLay ad knM)) (μ, ()) 112 [(0, .ref (ad 0)), (1, .int v1), (2, .int v2), (4, .int v4), (5, .int v5), (6, .int v6), (7, .int v7), (8, .int v8)] [] := by
    intro P76 h76 v1 v2 v4 v5 v6 v7 v8 μ h
    unfold w_X4_tree_112 at h
    refine vv_iload hC dX4_tree_112 4 rfl ?_
    refine vv_if_lt (tgt := 124) hC dX4_tree_114 rfl (fun c20 => ?_) (fun c20 => ?_)
    · replace h := h.1 c20
      refine vv_lv [0, 1, 2, 3, 6, 7] rfl ?_
      exact L124 _ h76 _ _ _ _ _ _ h
    · replace h := h.2 c20
      refine vv_iload hC dX4_tree_117 7 rfl ?_
      refine vv_iload hC dX4_tree_119 4 rfl ?_
      refine vv_icmp_ge (tgt := 128) hC dX4_tree_121 rfl (fun c21 => ?_) (fun c21 => ?_)
      · replace h := h.1 c21
        refine vv_iload hC dX4_tree_128 5 rfl ?_
        refine vv_iconst hC dX4_tree_130 ic_1 ?_
        refine vv_iadd hC dX4_tree_131 ?_
        refine vv_lv [0, 1, 2, 3, 6, 7] rfl ?_
        exact L132 _ h76 _ _ _ _ _ _ _ h
      · replace h := h.2 c21
        refine vv_lv [0, 1, 2, 3, 6, 7] rfl ?_
        exact L124 _ h76 _ _ _ _ _ _ h
  have L76 : ∀ (v1 : Int32) (v2 : Int32) (v4 : Int32) (v5 : Int32) (v6 : Int32) (v7 : Int32) (μ : WS), w_X4_tree_76  v1 v2 v4 v5 v6 v7 μ Q → VV C 10 (HPW D ac ad knM Ex (vS C)) (vQ C (QcW D ac ad knM (qI Q)) 0 0 (inLay ad knM)) (μ, ()) 76 [(0, .ref (ad 0)), (1, .int v1), (2, .int v2), (4, .int v4), (5, .int v5), (6, .int v6), (7, .int v7)] [] := by
    intro  v1 v2 v4 v5 v6 v7 μ h
    refine h (fun v1 v2 v4 v5 v6 v7 μ => VV C 10 (HPW D ac ad knM Ex (vS C)) (vQ C (QcW D ac ad knM (qI Q)) 0 0 (inLay ad knM)) (μ, ()) 76 [(0, .ref (ad 0)), (1, .int v1), (2, .int v2), (4, .int v4), (5, .int v5), (6, .int v6), (7, .int v7)] []) ?_
    clear h; intro v1 v2 v4 v5 v6 v7 μ h
    have h76 : ∀ (v1 : Int32) (v2 : Int32) (v4 : Int32) (v5 : Int32) (v6 : Int32) (v7 : Int32) (μ : WS), (fun v1 v2 v4 v5 v6 v7 (μ : WS) => VV C 10 (HPW D ac ad knM Ex (vS C)) (vQ C (QcW D ac ad knM (qI Q)) 0 0 (inLay ad knM)) (μ, ()) 76 [(0, .ref (ad 0)), (1, .int v1), (2, .int v2), (4, .int v4), (5, .int v5), (6, .int v6), (7, .int v7)] []) v1 v2 v4 v5 v6 v7 μ → VV C 10 (HPW D ac ad knM Ex (vS C)) (vQ C (QcW D ac ad knM (qI Q)) 0 0 (inLay ad knM)) (μ, ()) 76 [(0, .ref (ad 0)), (1, .int v1), (2, .int v2), (4, .int v4), (5, .int v5), (6, .int v6), (7, .int v7)] [] := fun _ _ _ _ _ _ _ h => h
    unfold w_X4_tree_76b at h
    refine vv_iload hC dX4_tree_76 6 rfl ?_
    refine vv_iload hC dX4_tree_78 3 rfl ?_
    refine vv_icmp_ge (tgt := 182) hC dX4_tree_80 rfl (fun c12 => ?_) (fun c12 => ?_)
    · replace h := h.1 c12
      refine vv_aload_n hC dX4_tree_182 rfl 0 rfl ?_
      refine vv_aload_n hC dX4_tree_183 rfl 0 rfl ?_
      refine vv_getf hC hR hK fa4_427 0 lm_0 (fm_63 ad _ _ _) dX4_tree_184 ?_
      refine vv_puti hC hR hK fa4_380 0 lm_0 fn_48 rfl rfl dX4_tree_187 ?_
      refine vv_st (fun y e => ?_)
      obtain ⟨μ13, _⟩ := y
      have eμ13 := congrArg Prod.fst e
      clear e
      replace h := h μ13 eμ13
      refine vv_iload_n hC dX4_tree_190 rfl 2 rfl ?_
      refine vv_if_ne (tgt := 199) hC dX4_tree_191 rfl (fun c14 => ?_) (fun c14 => ?_)
      · replace h := h.1 c14
        refine vv_iload hC dX4_tree_199 5 rfl ?_
        exact vv_iret hC hM dX4_tree_201 h
      · replace h := h.2 c14
        refine vv_iload hC dX4_tree_194 4 rfl ?_
        refine vv_goto (tgt := 201) hC dX4_tree_196 rfl ?_
        exact vv_iret hC hM dX4_tree_201 h
    · replace h := h.2 c12
      refine vv_aload_n hC dX4_tree_83 rfl 0 rfl ?_
      refine vv_iload hC dX4_tree_84 6 rfl ?_
      refine vv_iload_n hC dX4_tree_86 rfl 1 rfl ?_
      refine vv_callVi hC hR hK hRo hRm [.int v7, .int v1] [] (met_X4_changesOf (vL C) D ac ad Ex hLay hEx v7 v1 μ _ h) gw4_436 mf_X4_changesOf rfl lm_0 rfl rfl rfl rfl dX4_tree_87 (fun r16 μ15 h => ?_)
      refine vv_istore (lv' := [(8, .int r16), (0, .ref (ad 0)), (1, .int v1), (2, .int v2), (4, .int v4), (5, .int v5), (6, .int v6), (7, .int v7)]) hC dX4_tree_90 (by decide) rfl ?_
      refine vv_iload hC dX4_tree_92 0 rfl ?_
      refine vv_if_lt (tgt := 176) hC dX4_tree_94 rfl (fun c17 => ?_) (fun c17 => ?_)
      · replace h := h.1 c17
        refine vv_lv [1, 2, 3, 4, 5, 6, 7] rfl ?_
        exact L176 _ h76 _ _ _ _ _ _ _ h
      · replace h := h.2 c17
        refine vv_iload hC dX4_tree_97 5 rfl ?_
        refine vv_if_lt (tgt := 112) hC dX4_tree_99 rfl (fun c18 => ?_) (fun c18 => ?_)
        · replace h := h.1 c18
          refine vv_lv [1, 2, 3, 4, 5, 6, 7, 0] rfl ?_
          exact L112 _ h76 _ _ _ _ _ _ _ _ h
        · replace h := h.2 c18
          refine vv_iload hC dX4_tree_102 0 rfl ?_
          refine vv_iload hC dX4_tree_104 5 rfl ?_
          refine vv_icmp_le (tgt := 112) hC dX4_tree_106 rfl (fun c19 => ?_) (fun c19 => ?_)
          · replace h := h.1 c19
            refine vv_lv [1, 2, 3, 4, 5, 6, 7, 0] rfl ?_
            exact L112 _ h76 _ _ _ _ _ _ _ _ h
          · replace h := h.2 c19
            refine vv_goto (tgt := 176) hC dX4_tree_109 rfl ?_
            refine vv_lv [1, 2, 3, 4, 5, 6, 7] rfl ?_
            exact L176 _ h76 _ _ _ _ _ _ _ h
  have L41 : ∀ (v1 : Int32) (v2 : Int32) (v4 : Int32) (v5 : Int32) (μ : WS), w_X4_tree_41  v1 v2 v4 v5 μ Q → VV C 10 (HPW D ac ad knM Ex (vS C)) (vQ C (QcW D ac ad knM (qI Q)) 0 0 (inLay ad knM)) (μ, ()) 41 [(0, .ref (ad 0)), (1, .int v1), (2, .int v2), (4, .int v4), (5, .int v5)] [] := by
    intro  v1 v2 v4 v5 μ h
    refine h (fun v1 v2 v4 v5 μ => VV C 10 (HPW D ac ad knM Ex (vS C)) (vQ C (QcW D ac ad knM (qI Q)) 0 0 (inLay ad knM)) (μ, ()) 41 [(0, .ref (ad 0)), (1, .int v1), (2, .int v2), (4, .int v4), (5, .int v5)] []) ?_
    clear h; intro v1 v2 v4 v5 μ h
    have h41 : ∀ (v1 : Int32) (v2 : Int32) (v4 : Int32) (v5 : Int32) (μ : WS), (fun v1 v2 v4 v5 (μ : WS) => VV C 10 (HPW D ac ad knM Ex (vS C)) (vQ C (QcW D ac ad knM (qI Q)) 0 0 (inLay ad knM)) (μ, ()) 41 [(0, .ref (ad 0)), (1, .int v1), (2, .int v2), (4, .int v4), (5, .int v5)] []) v1 v2 v4 v5 μ → VV C 10 (HPW D ac ad knM Ex (vS C)) (vQ C (QcW D ac ad knM (qI Q)) 0 0 (inLay ad knM)) (μ, ()) 41 [(0, .ref (ad 0)), (1, .int v1), (2, .int v2), (4, .int v4), (5, .int v5)] [] := fun _ _ _ _ _ h => h
    unfold w_X4_tree_41b at h
    refine vv_iload hC dX4_tree_41 4 rfl ?_
    refine vv_aload_n hC dX4_tree_43 rfl 0 rfl ?_
    refine vv_getf hC hR hK fa4_427 0 lm_0 (fm_63 ad _ _ _) dX4_tree_44 ?_
    refine vv_icmp_ge (tgt := 67) hC dX4_tree_47 rfl (fun c10 => ?_) (fun c10 => ?_)
    · replace h := h.1 c10
      refine vv_iconst hC dX4_tree_67 ic_m1 ?_
      refine vv_istore (lv' := [(5, .int (-1)), (0, .ref (ad 0)), (1, .int v1), (2, .int v2), (4, .int v4)]) hC dX4_tree_68 (by decide) rfl ?_
      refine vv_iconst hC dX4_tree_70 ic_0 ?_
      refine vv_istore (lv' := [(6, .int 0), (5, .int (-1)), (0, .ref (ad 0)), (1, .int v1), (2, .int v2), (4, .int v4)]) hC dX4_tree_71 (by decide) rfl ?_
      refine vv_iconst hC dX4_tree_73 ic_0 ?_
      refine vv_istore (lv' := [(7, .int 0), (6, .int 0), (5, .int (-1)), (0, .ref (ad 0)), (1, .int v1), (2, .int v2), (4, .int v4)]) hC dX4_tree_74 (by decide) rfl ?_
      refine vv_lv [3, 4, 5, 6, 2, 1, 0] rfl ?_
      exact L76  _ _ _ _ _ _ _ h
    · replace h := h.2 c10
      refine vv_iload hC dX4_tree_50 3 rfl ?_
      refine vv_aload_n hC dX4_tree_52 rfl 0 rfl ?_
      refine vv_getf hC hR hK fa4_427 0 lm_0 (fm_63 ad _ _ _) dX4_tree_53 ?_
      refine vv_iconst hC dX4_tree_56 ic_1 ?_
      refine vv_isub hC dX4_tree_57 ?_
      refine vv_imul hC dX4_tree_58 ?_
      refine vv_topi (fun x11 ex11 => ?_)
      replace h := h x11 ex11
      refine vv_istore (lv' := [(4, .int x11), (0, .ref (ad 0)), (1, .int v1), (2, .int v2), (5, .int v5)]) hC dX4_tree_59 (by decide) rfl ?_
      refine vv_iinc (pl := 4) (v := v5 + 1) (lv' := [(5, .int (v5 + 1)), (4, .int x11), (0, .ref (ad 0)), (1, .int v1), (2, .int v2)]) hC dX4_tree_61 rfl rfl (by decide) rfl ?_
      refine vv_goto (tgt := 41) hC dX4_tree_64 rfl ?_
      refine vv_lv [2, 3, 4, 1, 0] rfl ?_
      exact h41 _ _ _ _ _ h
  unfold w_X4_tree at h
  refine vv_aload_n hC dX4_tree_0 rfl 0 rfl ?_
  refine vv_iconst hC dX4_tree_1 ic_0 ?_
  refine vv_puti hC hR hK fa4_380 0 lm_0 fn_48 rfl rfl dX4_tree_2 ?_
  refine vv_st (fun y e => ?_)
  obtain ⟨μ1, _⟩ := y
  have eμ1 := congrArg Prod.fst e
  clear e
  replace h := h μ1 eμ1
  refine vv_aload_n hC dX4_tree_5 rfl 0 rfl ?_
  refine vv_iload_n hC dX4_tree_6 rfl 3 rfl ?_
  refine vv_callVv hC hR hK hRo hRm [.int v3] [] (met_X4_laySamples (vL C) D ac ad Ex hLay hEx v3 μ1 _ h) gw4_433 mf_X4_laySamples rfl lm_0 rfl rfl rfl rfl dX4_tree_7 (fun μ2 h => ?_)
  refine vv_iload_n hC dX4_tree_10 rfl 1 rfl ?_
  refine vv_iconst hC dX4_tree_11 ic_0 ?_
  refine vv_aload_n hC dX4_tree_12 rfl 0 rfl ?_
  refine vv_getf hC hR hK fa4_427 0 lm_0 (fm_63 ad _ _ _) dX4_tree_13 ?_
  refine vv_iconst hC dX4_tree_16 ic_1 ?_
  refine vv_isub hC dX4_tree_17 ?_
  refine vv_callSi hC hR hK hRo hRm [.int v1, .int 0, .int ((μ2.1 0 63) - 1)] [] (met_X4_isIn (vL C) D ac ad Ex hLay hEx v1 0 ((μ2.1 0 63) - 1) μ2 _ h) gw4_345 mf_X4_isIn rfl rfl rfl dX4_tree_18 (fun r5 μ4 h => ?_)
  refine vv_if_eq (tgt := 33) hC dX4_tree_21 rfl (fun c6 => ?_) (fun c6 => ?_)
  · replace h := h.1 c6
    refine vv_iconst hC dX4_tree_33 ic_m1 ?_
    exact vv_iret hC hM dX4_tree_34 h
  · replace h := h.2 c6
    refine vv_iload_n hC dX4_tree_24 rfl 2 rfl ?_
    refine vv_iconst hC dX4_tree_25 ic_0 ?_
    refine vv_iconst hC dX4_tree_26 ic_1 ?_
    refine vv_callSi hC hR hK hRo hRm [.int v2, .int 0, .int 1] [] (met_X4_isIn (vL C) D ac ad Ex hLay hEx v2 0 1 μ4 _ h) gw4_345 mf_X4_isIn rfl rfl rfl dX4_tree_27 (fun r8 μ7 h => ?_)
    refine vv_if_ne (tgt := 35) hC dX4_tree_30 rfl (fun c9 => ?_) (fun c9 => ?_)
    · replace h := h.1 c9
      refine vv_iconst hC dX4_tree_35 ic_1 ?_
      refine vv_istore (lv' := [(4, .int 1), (0, .ref (ad 0)), (1, .int v1), (2, .int v2), (3, .int v3)]) hC dX4_tree_36 (by decide) rfl ?_
      refine vv_iconst hC dX4_tree_38 ic_1 ?_
      refine vv_istore (lv' := [(5, .int 1), (4, .int 1), (0, .ref (ad 0)), (1, .int v1), (2, .int v2), (3, .int v3)]) hC dX4_tree_39 (by decide) rfl ?_
      refine vv_lv [2, 3, 4, 1, 0] rfl ?_
      exact L41  _ _ _ _ _ h
    · replace h := h.2 c9
      refine vv_iconst hC dX4_tree_33 ic_m1 ?_
      exact vv_iret hC hM dX4_tree_34 h
def w_X4_centre_107 (P31 : Int32 → Int32 → Int32 → Int32 → WS → Prop) (v1 : Int32) (v3 : Int32) (v4 : Int32) (v5 : Int32) (μ : WS) (Q : Int32 → WS → Prop) : Prop := P31 v1 v3 v4 (v5 + 1) μ
def w_X4_centre_100 (P31 : Int32 → Int32 → Int32 → Int32 → WS → Prop) (v1 : Int32) (v5 : Int32) (v6 : Int32) (μ : WS) (Q : Int32 → WS → Prop) : Prop := w_X4_centre_107 P31 v1 v5 v6 v5 μ Q
def w_X4_centre_80 (P31 : Int32 → Int32 → Int32 → Int32 → WS → Prop) (P46 : Int32 → Int32 → Int32 → Int32 → Int32 → Int32 → WS → Prop) (v1 : Int32) (v3 : Int32) (v4 : Int32) (v5 : Int32) (v6 : Int32) (v7 : Int32) (μ : WS) (Q : Int32 → WS → Prop) : Prop := P46 v1 v3 v4 v5 v6 (v7 + 1) μ
def w_X4_centre_46b (P31 : Int32 → Int32 → Int32 → Int32 → WS → Prop) (P46 : Int32 → Int32 → Int32 → Int32 → Int32 → Int32 → WS → Prop) (v1 : Int32) (v3 : Int32) (v4 : Int32) (v5 : Int32) (v6 : Int32) (v7 : Int32) (μ : WS) (Q : Int32 → WS → Prop) : Prop := ((μ.1 0 63 ≤ v7) → ((v3 < 0) → w_X4_centre_100 P31 v1 v5 v6 μ Q) ∧ ((¬ v3 < 0) → ((v6 < v4) → w_X4_centre_100 P31 v1 v5 v6 μ Q) ∧ ((¬ v6 < v4) → w_X4_centre_107 P31 v1 v3 v4 v5 μ Q))) ∧ ((¬ μ.1 0 63 ≤ v7) → ((v7 = v5) → w_X4_centre_80 P31 P46 v1 v3 v4 v5 v6 v7 μ Q) ∧ ((¬ v7 = v5) → (vp_in ((7 * v5) + v7) 49 ∧ (∀ x13 : Int32, x13 = v6 + (μ.1 38 ((7 * v5) + v7).toNatClampNeg) → w_X4_centre_80 P31 P46 v1 v3 v4 v5 x13 v7 μ Q))))
def w_X4_centre_46 (P31 : Int32 → Int32 → Int32 → Int32 → WS → Prop) (v1 : Int32) (v3 : Int32) (v4 : Int32) (v5 : Int32) (v6 : Int32) (v7 : Int32) (μ : WS) (Q : Int32 → WS → Prop) : Prop := ∀ P46 : Int32 → Int32 → Int32 → Int32 → Int32 → Int32 → WS → Prop, (∀ (v1 : Int32) (v3 : Int32) (v4 : Int32) (v5 : Int32) (v6 : Int32) (v7 : Int32) (μ : WS), w_X4_centre_46b P31 P46 v1 v3 v4 v5 v6 v7 μ Q → P46 v1 v3 v4 v5 v6 v7 μ) → P46 v1 v3 v4 v5 v6 v7 μ
def w_X4_centre_31b (P31 : Int32 → Int32 → Int32 → Int32 → WS → Prop) (v1 : Int32) (v3 : Int32) (v4 : Int32) (v5 : Int32) (μ : WS) (Q : Int32 → WS → Prop) : Prop := ((μ.1 0 63 ≤ v5) → ((¬ v1 = 0) → Q v4 μ) ∧ ((v1 = 0) → Q v3 μ)) ∧ ((¬ μ.1 0 63 ≤ v5) → w_X4_centre_46 P31 v1 v3 v4 v5 0 0 μ Q)
def w_X4_centre_31 (v1 : Int32) (v3 : Int32) (v4 : Int32) (v5 : Int32) (μ : WS) (Q : Int32 → WS → Prop) : Prop := ∀ P31 : Int32 → Int32 → Int32 → Int32 → WS → Prop, (∀ (v1 : Int32) (v3 : Int32) (v4 : Int32) (v5 : Int32) (μ : WS), w_X4_centre_31b  P31 v1 v3 v4 v5 μ Q → P31 v1 v3 v4 v5 μ) → P31 v1 v3 v4 v5 μ
def w_X4_centre (v1 : Int32) (v2 : Int32) (μ : WS) (Q : Int32 → WS → Prop) : Prop := (w_X4_laySamples v2 μ (fun μ1 => ((μ1.1 0 63 = 0) → Q (-1) μ1) ∧ ((¬ μ1.1 0 63 = 0) → (w_X4_isIn v1 0 1 μ1 (fun r5 μ4 => ((¬ r5 = 0) → w_X4_centre_31 v1 (-1) 0 0 μ4 Q) ∧ ((r5 = 0) → Q (-1) μ4))))))
abbrev rm_X4_centre : Room := { frames := 3, cells := 0, slots := 0, locals := 67 }
theorem mf_X4_centre : MFact yX4_centre 2 rm_X4_centre := ⟨by decide +kernel, rfl, rfl⟩
set_option maxHeartbeats 4000000 in
theorem met_X4_centre (l : Launch) (D : va_G) (ac : Nat → ClassId) (ad : Nat → Nat) (Ex : Heap → Prop) (hLay : LayOk ad knM) (hEx : ExOk ad knM Ex) (v1 : Int32) (v2 : Int32) (μ : WS) (Q : Int32 → WS → Prop) (h : w_X4_centre v1 v2 μ Q) : CMet l yX4_centre cX4_centre 8 (some .int) rm_X4_centre D ac ad knM Ex [.ref (ad 0), .int v1, .int v2] μ (qI Q) := by
  refine vv_met (lv := [(0, .ref (ad 0)), (1, .int v1), (2, .int v2)]) (by decide) hLay hEx (Nat.le_of_ble_eq_true rfl) rfl ⟨rfl, rfl⟩ (fun C hC hK hRm hLl hR hM => ?_)
  subst hLl
  have hRo : RoomOk (HPW D ac ad knM Ex (vS C)) (vR C) := HPW.room
  have L107 : ∀ (P31 : Int32 → Int32 → Int32 → Int32 → WS → Prop) (h31 : ∀ (v1 : Int32) (v3 : Int32) (v4 : Int32) (v5 : Int32) (μ : WS), P31 v1 v3 v4 v5 μ → VV C 8 (HPW D ac ad knM Ex (vS C)) (vQ C (QcW D ac ad knM (qI Q)) 0 0 (inLay ad knM)) (μ, ()) 31 [(0, .ref (ad 0)), (1, .int v1), (3, .int v3), (4, .int v4), (5, .int v5)] []) (v1 : Int32) (v3 : Int32) (v4 : Int32) (v5 : Int32) (μ : WS), w_X4_centre_107 P31 v1 v3 v4 v5 μ Q → VV C 8 (HPW D ac ad knM Ex (vS C)) (vQ C (QcW D ac ad knM (qI Q)) 0 0 (inLay ad knM)) (μ, ()) 107 [(0, .ref (ad 0)), (1, .int v1), (3, .int v3), (4, .int v4), (5, .int v5)] [] := by
    intro P31 h31 v1 v3 v4 v5 μ h
    unfold w_X4_centre_107 at h
    refine vv_iinc (pl := 4) (v := v5 + 1) (lv' := [(5, .int (v5 + 1)), (0, .ref (ad 0)), (1, .int v1), (3, .int v3), (4, .int v4)]) hC dX4_centre_107 rfl rfl (by decide) rfl ?_
    refine vv_goto (tgt := 31) hC dX4_centre_110 rfl ?_
    refine vv_lv [1, 2, 3, 4, 0] rfl ?_
    exact h31 _ _ _ _ _ h
  have L100 : ∀ (P31 : Int32 → Int32 → Int32 → Int32 → WS → Prop) (h31 : ∀ (v1 : Int32) (v3 : Int32) (v4 : Int32) (v5 : Int32) (μ : WS), P31 v1 v3 v4 v5 μ → VV C 8 (HPW D ac ad knM Ex (vS C)) (vQ C (QcW D ac ad knM (qI Q)) 0 0 (inLay ad knM)) (μ, ()) 31 [(0, .ref (ad 0)), (1, .int v1), (3, .int v3), (4, .int v4), (5, .int v5)] []) (v1 : Int32) (v5 : Int32) (v6 : Int32) (μ : WS), w_X4_centre_100 P31 v1 v5 v6 μ Q → VV C 8 (HPW D ac ad knM Ex (vS C)) (vQ C (QcW D ac ad knM (qI Q)) 0 0 (inLay ad knM)) (μ, ()) 100 [(0, .ref (ad 0)), (1, .int v1), (5, .int v5), (6, .int v6)] [] := by
    intro P31 h31 v1 v5 v6 μ h
    unfold w_X4_centre_100 at h
    refine vv_iload hC dX4_centre_100 2 rfl ?_
    refine vv_istore_n (lv' := [(3, .int v5), (0, .ref (ad 0)), (1, .int v1), (5, .int v5), (6, .int v6)]) hC dX4_centre_102 rfl (by decide) rfl ?_
    refine vv_iload hC dX4_centre_103 4 rfl ?_
    refine vv_istore (lv' := [(4, .int v6), (3, .int v5), (0, .ref (ad 0)), (1, .int v1), (5, .int v5), (6, .int v6)]) hC dX4_centre_105 (by decide) rfl ?_
    refine vv_lv [2, 3, 1, 0, 4] rfl ?_
    exact L107 _ h31 _ _ _ _ _ h
  have L80 : ∀ (P31 : Int32 → Int32 → Int32 → Int32 → WS → Prop) (h31 : ∀ (v1 : Int32) (v3 : Int32) (v4 : Int32) (v5 : Int32) (μ : WS), P31 v1 v3 v4 v5 μ → VV C 8 (HPW D ac ad knM Ex (vS C)) (vQ C (QcW D ac ad knM (qI Q)) 0 0 (inLay ad knM)) (μ, ()) 31 [(0, .ref (ad 0)), (1, .int v1), (3, .int v3), (4, .int v4), (5, .int v5)] []) (P46 : Int32 → Int32 → Int32 → Int32 → Int32 → Int32 → WS → Prop) (h46 : ∀ (v1 : Int32) (v3 : Int32) (v4 : Int32) (v5 : Int32) (v6 : Int32) (v7 : Int32) (μ : WS), P46 v1 v3 v4 v5 v6 v7 μ → VV C 8 (HPW D ac ad knM Ex (vS C)) (vQ C (QcW D ac ad knM (qI Q)) 0 0 (inLay ad knM)) (μ, ()) 46 [(0, .ref (ad 0)), (1, .int v1), (3, .int v3), (4, .int v4), (5, .int v5), (6, .int v6), (7, .int v7)] []) (v1 : Int32) (v3 : Int32) (v4 : Int32) (v5 : Int32) (v6 : Int32) (v7 : Int32) (μ : WS), w_X4_centre_80 P31 P46 v1 v3 v4 v5 v6 v7 μ Q → VV C 8 (HPW D ac ad knM Ex (vS C)) (vQ C (QcW D ac ad knM (qI Q)) 0 0 (inLay ad knM)) (μ, ()) 80 [(0, .ref (ad 0)), (1, .int v1), (3, .int v3), (4, .int v4), (5, .int v5), (6, .int v6), (7, .int v7)] [] := by
    intro P31 h31 P46 h46 v1 v3 v4 v5 v6 v7 μ h
    unfold w_X4_centre_80 at h
    refine vv_iinc (pl := 6) (v := v7 + 1) (lv' := [(7, .int (v7 + 1)), (0, .ref (ad 0)), (1, .int v1), (3, .int v3), (4, .int v4), (5, .int v5), (6, .int v6)]) hC dX4_centre_80 rfl rfl (by decide) rfl ?_
    refine vv_goto (tgt := 46) hC dX4_centre_83 rfl ?_
    refine vv_lv [1, 2, 3, 4, 5, 6, 0] rfl ?_
    exact h46 _ _ _ _ _ _ _ h
  have L46 : ∀ (P31 : Int32 → Int32 → Int32 → Int32 → WS → Prop) (h31 : ∀ (v1 : Int32) (v3 : Int32) (v4 : Int32) (v5 : Int32) (μ : WS), P31 v1 v3 v4 v5 μ → VV C 8 (HPW D ac ad knM Ex (vS C)) (vQ C (QcW D ac ad knM (qI Q)) 0 0 (inLay ad knM)) (μ, ()) 31 [(0, .ref (ad 0)), (1, .int v1), (3, .int v3), (4, .int v4), (5, .int v5)] []) (v1 : Int32) (v3 : Int32) (v4 : Int32) (v5 : Int32) (v6 : Int32) (v7 : Int32) (μ : WS), w_X4_centre_46 P31 v1 v3 v4 v5 v6 v7 μ Q → VV C 8 (HPW D ac ad knM Ex (vS C)) (vQ C (QcW D ac ad knM (qI Q)) 0 0 (inLay ad knM)) (μ, ()) 46 [(0, .ref (ad 0)), (1, .int v1), (3, .int v3), (4, .int v4), (5, .int v5), (6, .int v6), (7, .int v7)] [] := by
    intro P31 h31 v1 v3 v4 v5 v6 v7 μ h
    refine h (fun v1 v3 v4 v5 v6 v7 μ => VV C 8 (HPW D ac ad knM Ex (vS C)) (vQ C (QcW D ac ad knM (qI Q)) 0 0 (inLay ad knM)) (μ, ()) 46 [(0, .ref (ad 0)), (1, .int v1), (3, .int v3), (4, .int v4), (5, .int v5), (6, .int v6), (7, .int v7)] []) ?_
    clear h; intro v1 v3 v4 v5 v6 v7 μ h
    have h46 : ∀ (v1 : Int32) (v3 : Int32) (v4 : Int32) (v5 : Int32) (v6 : Int32) (v7 : Int32) (μ : WS), (fun v1 v3 v4 v5 v6 v7 (μ : WS) => VV C 8 (HPW D ac ad knM Ex (vS C)) (vQ C (QcW D ac ad knM (qI Q)) 0 0 (inLay ad knM)) (μ, ()) 46 [(0, .ref (ad 0)), (1, .int v1), (3, .int v3), (4, .int v4), (5, .int v5), (6, .int v6), (7, .int v7)] []) v1 v3 v4 v5 v6 v7 μ → VV C 8 (HPW D ac ad knM Ex (vS C)) (vQ C (QcW D ac ad knM (qI Q)) 0 0 (inLay ad knM)) (μ, ()) 46 [(0, .ref (ad 0)), (1, .int v1), (3, .int v3), (4, .int v4), (5, .int v5), (6, .int v6), (7, .int v7)] [] := fun _ _ _ _ _ _ _ h => h
    unfold w_X4_centre_46b at h
    refine vv_iload hC dX4_centre_46 6 rfl ?_
    refine vv_aload_n hC dX4_centre_48 rfl 0 rfl ?_
    refine vv_getf hC hR hK fa4_427 0 lm_0 (fm_63 ad _ _ _) dX4_centre_49 ?_
    refine vv_icmp_ge (tgt := 86) hC dX4_centre_52 rfl (fun c9 => ?_) (fun c9 => ?_)
    · replace h := h.1 c9
      refine vv_iload_n hC dX4_centre_86 rfl 2 rfl ?_
      refine vv_if_lt (tgt := 100) hC dX4_centre_87 rfl (fun c10 => ?_) (fun c10 => ?_)
      · replace h := h.1 c10
        refine vv_lv [0, 1, 4, 5] rfl ?_
        exact L100 _ h31 _ _ _ _ h
      · replace h := h.2 c10
        refine vv_iload hC dX4_centre_90 5 rfl ?_
        refine vv_iload hC dX4_centre_92 3 rfl ?_
        refine vv_icmp_lt (tgt := 100) hC dX4_centre_94 rfl (fun c11 => ?_) (fun c11 => ?_)
        · replace h := h.1 c11
          refine vv_lv [0, 1, 4, 5] rfl ?_
          exact L100 _ h31 _ _ _ _ h
        · replace h := h.2 c11
          refine vv_goto (tgt := 107) hC dX4_centre_97 rfl ?_
          refine vv_lv [0, 1, 2, 3, 4] rfl ?_
          exact L107 _ h31 _ _ _ _ _ h
    · replace h := h.2 c9
      refine vv_iload hC dX4_centre_55 6 rfl ?_
      refine vv_iload hC dX4_centre_57 4 rfl ?_
      refine vv_icmp_eq (tgt := 80) hC dX4_centre_59 rfl (fun c12 => ?_) (fun c12 => ?_)
      · replace h := h.1 c12
        exact L80 _ h31 _ h46 _ _ _ _ _ _ _ h
      · replace h := h.2 c12
        refine vv_iload hC dX4_centre_62 5 rfl ?_
        refine vv_aload_n hC dX4_centre_64 rfl 0 rfl ?_
        refine vv_getf hC hR hK fa4_129 0 lm_0 (fm_62 ad _ _ _) dX4_centre_65 ?_
        refine vv_bipush hC dX4_centre_68 bp_7 ?_
        refine vv_iload hC dX4_centre_70 4 rfl ?_
        refine vv_imul hC dX4_centre_72 ?_
        refine vv_iload hC dX4_centre_73 6 rfl ?_
        refine vv_iadd hC dX4_centre_75 ?_
        obtain ⟨hin, h⟩ := h
        refine vv_iald hC hR hK 38 lm_38 hin dX4_centre_76 ?_
        refine vv_iadd hC dX4_centre_77 ?_
        refine vv_topi (fun x13 ex13 => ?_)
        replace h := h x13 ex13
        refine vv_istore (lv' := [(6, .int x13), (0, .ref (ad 0)), (1, .int v1), (3, .int v3), (4, .int v4), (5, .int v5), (7, .int v7)]) hC dX4_centre_78 (by decide) rfl ?_
        refine vv_lv [1, 2, 3, 4, 5, 0, 6] rfl ?_
        exact L80 _ h31 _ h46 _ _ _ _ _ _ _ h
  have L31 : ∀ (v1 : Int32) (v3 : Int32) (v4 : Int32) (v5 : Int32) (μ : WS), w_X4_centre_31  v1 v3 v4 v5 μ Q → VV C 8 (HPW D ac ad knM Ex (vS C)) (vQ C (QcW D ac ad knM (qI Q)) 0 0 (inLay ad knM)) (μ, ()) 31 [(0, .ref (ad 0)), (1, .int v1), (3, .int v3), (4, .int v4), (5, .int v5)] [] := by
    intro  v1 v3 v4 v5 μ h
    refine h (fun v1 v3 v4 v5 μ => VV C 8 (HPW D ac ad knM Ex (vS C)) (vQ C (QcW D ac ad knM (qI Q)) 0 0 (inLay ad knM)) (μ, ()) 31 [(0, .ref (ad 0)), (1, .int v1), (3, .int v3), (4, .int v4), (5, .int v5)] []) ?_
    clear h; intro v1 v3 v4 v5 μ h
    have h31 : ∀ (v1 : Int32) (v3 : Int32) (v4 : Int32) (v5 : Int32) (μ : WS), (fun v1 v3 v4 v5 (μ : WS) => VV C 8 (HPW D ac ad knM Ex (vS C)) (vQ C (QcW D ac ad knM (qI Q)) 0 0 (inLay ad knM)) (μ, ()) 31 [(0, .ref (ad 0)), (1, .int v1), (3, .int v3), (4, .int v4), (5, .int v5)] []) v1 v3 v4 v5 μ → VV C 8 (HPW D ac ad knM Ex (vS C)) (vQ C (QcW D ac ad knM (qI Q)) 0 0 (inLay ad knM)) (μ, ()) 31 [(0, .ref (ad 0)), (1, .int v1), (3, .int v3), (4, .int v4), (5, .int v5)] [] := fun _ _ _ _ _ h => h
    unfold w_X4_centre_31b at h
    refine vv_iload hC dX4_centre_31 4 rfl ?_
    refine vv_aload_n hC dX4_centre_33 rfl 0 rfl ?_
    refine vv_getf hC hR hK fa4_427 0 lm_0 (fm_63 ad _ _ _) dX4_centre_34 ?_
    refine vv_icmp_ge (tgt := 113) hC dX4_centre_37 rfl (fun c7 => ?_) (fun c7 => ?_)
    · replace h := h.1 c7
      refine vv_iload_n hC dX4_centre_113 rfl 1 rfl ?_
      refine vv_if_ne (tgt := 121) hC dX4_centre_114 rfl (fun c8 => ?_) (fun c8 => ?_)
      · replace h := h.1 c8
        refine vv_iload hC dX4_centre_121 3 rfl ?_
        exact vv_iret hC hM dX4_centre_123 h
      · replace h := h.2 c8
        refine vv_iload_n hC dX4_centre_117 rfl 2 rfl ?_
        refine vv_goto (tgt := 123) hC dX4_centre_118 rfl ?_
        exact vv_iret hC hM dX4_centre_123 h
    · replace h := h.2 c7
      refine vv_iconst hC dX4_centre_40 ic_0 ?_
      refine vv_istore (lv' := [(6, .int 0), (0, .ref (ad 0)), (1, .int v1), (3, .int v3), (4, .int v4), (5, .int v5)]) hC dX4_centre_41 (by decide) rfl ?_
      refine vv_iconst hC dX4_centre_43 ic_0 ?_
      refine vv_istore (lv' := [(7, .int 0), (6, .int 0), (0, .ref (ad 0)), (1, .int v1), (3, .int v3), (4, .int v4), (5, .int v5)]) hC dX4_centre_44 (by decide) rfl ?_
      refine vv_lv [2, 3, 4, 5, 6, 1, 0] rfl ?_
      exact L46 _ h31 _ _ _ _ _ _ _ h
  unfold w_X4_centre at h
  refine vv_aload_n hC dX4_centre_0 rfl 0 rfl ?_
  refine vv_iload_n hC dX4_centre_1 rfl 2 rfl ?_
  refine vv_callVv hC hR hK hRo hRm [.int v2] [] (met_X4_laySamples (vL C) D ac ad Ex hLay hEx v2 μ _ h) gw4_433 mf_X4_laySamples rfl lm_0 rfl rfl rfl rfl dX4_centre_2 (fun μ1 h => ?_)
  refine vv_aload_n hC dX4_centre_5 rfl 0 rfl ?_
  refine vv_getf hC hR hK fa4_427 0 lm_0 (fm_63 ad _ _ _) dX4_centre_6 ?_
  refine vv_if_eq (tgt := 21) hC dX4_centre_9 rfl (fun c3 => ?_) (fun c3 => ?_)
  · replace h := h.1 c3
    refine vv_iconst hC dX4_centre_21 ic_m1 ?_
    exact vv_iret hC hM dX4_centre_22 h
  · replace h := h.2 c3
    refine vv_iload_n hC dX4_centre_12 rfl 1 rfl ?_
    refine vv_iconst hC dX4_centre_13 ic_0 ?_
    refine vv_iconst hC dX4_centre_14 ic_1 ?_
    refine vv_callSi hC hR hK hRo hRm [.int v1, .int 0, .int 1] [] (met_X4_isIn (vL C) D ac ad Ex hLay hEx v1 0 1 μ1 _ h) gw4_345 mf_X4_isIn rfl rfl rfl dX4_centre_15 (fun r5 μ4 h => ?_)
    refine vv_if_ne (tgt := 23) hC dX4_centre_18 rfl (fun c6 => ?_) (fun c6 => ?_)
    · replace h := h.1 c6
      refine vv_iconst hC dX4_centre_23 ic_m1 ?_
      refine vv_istore_n (lv' := [(3, .int (-1)), (0, .ref (ad 0)), (1, .int v1), (2, .int v2)]) hC dX4_centre_24 rfl (by decide) rfl ?_
      refine vv_iconst hC dX4_centre_25 ic_0 ?_
      refine vv_istore (lv' := [(4, .int 0), (3, .int (-1)), (0, .ref (ad 0)), (1, .int v1), (2, .int v2)]) hC dX4_centre_26 (by decide) rfl ?_
      refine vv_iconst hC dX4_centre_28 ic_0 ?_
      refine vv_istore (lv' := [(5, .int 0), (4, .int 0), (3, .int (-1)), (0, .ref (ad 0)), (1, .int v1), (2, .int v2)]) hC dX4_centre_29 (by decide) rfl ?_
      refine vv_lv [3, 4, 2, 1, 0] rfl ?_
      exact L31  _ _ _ _ _ h
    · replace h := h.2 c6
      refine vv_iconst hC dX4_centre_21 ic_m1 ?_
      exact vv_iret hC hM dX4_centre_22 h
def w_X4_layClans_176 (P25 : Int32 → Int32 → WS → Prop) (P35 : Int32 → Int32 → Int32 → WS → Prop) (v1 : Int32) (v2 : Int32) (v3 : Int32) (μ : WS) (Q : WS → Prop) : Prop := P35 v1 v2 (v3 + 1) μ
def w_X4_layClans_170 (P25 : Int32 → Int32 → WS → Prop) (P35 : Int32 → Int32 → Int32 → WS → Prop) (P140 : Int32 → Int32 → Int32 → Int32 → Int32 → Int32 → WS → Prop) (v1 : Int32) (v2 : Int32) (v3 : Int32) (v4 : Int32) (v5 : Int32) (v6 : Int32) (μ : WS) (Q : WS → Prop) : Prop := P140 v1 v2 v3 v4 v5 (v6 + 1) μ
def w_X4_layClans_140b (P25 : Int32 → Int32 → WS → Prop) (P35 : Int32 → Int32 → Int32 → WS → Prop) (P140 : Int32 → Int32 → Int32 → Int32 → Int32 → Int32 → WS → Prop) (v1 : Int32) (v2 : Int32) (v3 : Int32) (v4 : Int32) (v5 : Int32) (v6 : Int32) (μ : WS) (Q : WS → Prop) : Prop := ((μ.1 0 63 ≤ v6) → w_X4_layClans_176 P25 P35 v1 v2 v3 μ Q) ∧ ((¬ μ.1 0 63 ≤ v6) → (vp_in v6 7 ∧ ((¬ μ.1 39 v6.toNatClampNeg = v5) → w_X4_layClans_170 P25 P35 P140 v1 v2 v3 v4 v5 v6 μ Q) ∧ ((μ.1 39 v6.toNatClampNeg = v5) → (vp_in v6 7 ∧ (∀ μ11 : WS, μ11 = wset μ 39 v6.toNatClampNeg v4 → w_X4_layClans_170 P25 P35 P140 v1 v2 v3 v4 v5 v6 μ11 Q)))))
def w_X4_layClans_140 (P25 : Int32 → Int32 → WS → Prop) (P35 : Int32 → Int32 → Int32 → WS → Prop) (v1 : Int32) (v2 : Int32) (v3 : Int32) (v4 : Int32) (v5 : Int32) (v6 : Int32) (μ : WS) (Q : WS → Prop) : Prop := ∀ P140 : Int32 → Int32 → Int32 → Int32 → Int32 → Int32 → WS → Prop, (∀ (v1 : Int32) (v2 : Int32) (v3 : Int32) (v4 : Int32) (v5 : Int32) (v6 : Int32) (μ : WS), w_X4_layClans_140b P25 P35 P140 v1 v2 v3 v4 v5 v6 μ Q → P140 v1 v2 v3 v4 v5 v6 μ) → P140 v1 v2 v3 v4 v5 v6 μ
def w_X4_layClans_135 (P25 : Int32 → Int32 → WS → Prop) (P35 : Int32 → Int32 → Int32 → WS → Prop) (s0 : Int32) (v1 : Int32) (v2 : Int32) (v3 : Int32) (v4 : Int32) (μ : WS) (Q : WS → Prop) : Prop := w_X4_layClans_140 P25 P35 v1 v2 v3 v4 s0 0 μ Q
def w_X4_layClans_103 (P25 : Int32 → Int32 → WS → Prop) (P35 : Int32 → Int32 → Int32 → WS → Prop) (s0 : Int32) (v1 : Int32) (v2 : Int32) (v3 : Int32) (μ : WS) (Q : WS → Prop) : Prop := (vp_in v2 7 ∧ (vp_in v3 7 ∧ ((μ.1 39 v3.toNatClampNeg ≤ μ.1 39 v2.toNatClampNeg) → (vp_in v2 7 ∧ w_X4_layClans_135 P25 P35 (μ.1 39 v2.toNatClampNeg) v1 v2 v3 s0 μ Q)) ∧ ((¬ μ.1 39 v3.toNatClampNeg ≤ μ.1 39 v2.toNatClampNeg) → (vp_in v3 7 ∧ w_X4_layClans_135 P25 P35 (μ.1 39 v3.toNatClampNeg) v1 v2 v3 s0 μ Q))))
def w_X4_layClans_73 (P25 : Int32 → Int32 → WS → Prop) (P35 : Int32 → Int32 → Int32 → WS → Prop) (v1 : Int32) (v2 : Int32) (v3 : Int32) (μ : WS) (Q : WS → Prop) : Prop := (vp_in v2 7 ∧ (vp_in v3 7 ∧ ((μ.1 39 v3.toNatClampNeg ≤ μ.1 39 v2.toNatClampNeg) → (vp_in v3 7 ∧ w_X4_layClans_103 P25 P35 (μ.1 39 v3.toNatClampNeg) v1 v2 v3 μ Q)) ∧ ((¬ μ.1 39 v3.toNatClampNeg ≤ μ.1 39 v2.toNatClampNeg) → (vp_in v2 7 ∧ w_X4_layClans_103 P25 P35 (μ.1 39 v2.toNatClampNeg) v1 v2 v3 μ Q))))
def w_X4_layClans_35b (P25 : Int32 → Int32 → WS → Prop) (P35 : Int32 → Int32 → Int32 → WS → Prop) (v1 : Int32) (v2 : Int32) (v3 : Int32) (μ : WS) (Q : WS → Prop) : Prop := ((v2 ≤ v3) → P25 v1 (v2 + 1) μ) ∧ ((¬ v2 ≤ v3) → (vp_in ((7 * v2) + v3) 49 ∧ ((μ.1 38 ((7 * v2) + v3).toNatClampNeg ≤ v1) → w_X4_layClans_73 P25 P35 v1 v2 v3 μ Q) ∧ ((¬ μ.1 38 ((7 * v2) + v3).toNatClampNeg ≤ v1) → (vp_in ((7 * v3) + v2) 49 ∧ ((μ.1 38 ((7 * v3) + v2).toNatClampNeg ≤ v1) → w_X4_layClans_73 P25 P35 v1 v2 v3 μ Q) ∧ ((¬ μ.1 38 ((7 * v3) + v2).toNatClampNeg ≤ v1) → w_X4_layClans_176 P25 P35 v1 v2 v3 μ Q)))))
def w_X4_layClans_35 (P25 : Int32 → Int32 → WS → Prop) (v1 : Int32) (v2 : Int32) (v3 : Int32) (μ : WS) (Q : WS → Prop) : Prop := ∀ P35 : Int32 → Int32 → Int32 → WS → Prop, (∀ (v1 : Int32) (v2 : Int32) (v3 : Int32) (μ : WS), w_X4_layClans_35b P25 P35 v1 v2 v3 μ Q → P35 v1 v2 v3 μ) → P35 v1 v2 v3 μ
def w_X4_layClans_25b (P25 : Int32 → Int32 → WS → Prop) (v1 : Int32) (v2 : Int32) (μ : WS) (Q : WS → Prop) : Prop := ((μ.1 0 63 ≤ v2) → Q μ) ∧ ((¬ μ.1 0 63 ≤ v2) → w_X4_layClans_35 P25 v1 v2 0 μ Q)
def w_X4_layClans_25 (v1 : Int32) (v2 : Int32) (μ : WS) (Q : WS → Prop) : Prop := ∀ P25 : Int32 → Int32 → WS → Prop, (∀ (v1 : Int32) (v2 : Int32) (μ : WS), w_X4_layClans_25b  P25 v1 v2 μ Q → P25 v1 v2 μ) → P25 v1 v2 μ
def w_X4_layClans_2b (P2 : Int32 → Int32 → WS → Prop) (v1 : Int32) (v2 : Int32) (μ : WS) (Q : WS → Prop) : Prop := ((μ.1 0 63 ≤ v2) → w_X4_layClans_25 v1 0 μ Q) ∧ ((¬ μ.1 0 63 ≤ v2) → (vp_in v2 7 ∧ (∀ μ2 : WS, μ2 = wset μ 39 v2.toNatClampNeg v2 → P2 v1 (v2 + 1) μ2)))
def w_X4_layClans_2 (v1 : Int32) (v2 : Int32) (μ : WS) (Q : WS → Prop) : Prop := ∀ P2 : Int32 → Int32 → WS → Prop, (∀ (v1 : Int32) (v2 : Int32) (μ : WS), w_X4_layClans_2b  P2 v1 v2 μ Q → P2 v1 v2 μ) → P2 v1 v2 μ
def w_X4_layClans (v1 : Int32) (μ : WS) (Q : WS → Prop) : Prop := w_X4_layClans_2 v1 0 μ Q
abbrev rm_X4_layClans : Room := { frames := 0, cells := 0, slots := 0, locals := 0 }
theorem mf_X4_layClans : MFact yX4_layClans 1 rm_X4_layClans := ⟨by decide +kernel, rfl, rfl⟩
set_option maxHeartbeats 4000000 in
theorem met_X4_layClans (l : Launch) (D : va_G) (ac : Nat → ClassId) (ad : Nat → Nat) (Ex : Heap → Prop) (hLay : LayOk ad knM) (hEx : ExOk ad knM Ex) (v1 : Int32) (μ : WS) (Q : WS → Prop) (h : w_X4_layClans v1 μ Q) : CMet l yX4_layClans cX4_layClans 7 none rm_X4_layClans D ac ad knM Ex [.ref (ad 0), .int v1] μ (qV Q) := by
  refine vv_met (lv := [(0, .ref (ad 0)), (1, .int v1)]) (by decide) hLay hEx (Nat.le_of_ble_eq_true rfl) rfl ⟨rfl, rfl⟩ (fun C hC hK hRm hLl hR hM => ?_)
  subst hLl
  have hRo : RoomOk (HPW D ac ad knM Ex (vS C)) (vR C) := HPW.room
  have L176 : ∀ (P25 : Int32 → Int32 → WS → Prop) (h25 : ∀ (v1 : Int32) (v2 : Int32) (μ : WS), P25 v1 v2 μ → VV C 7 (HPW D ac ad knM Ex (vS C)) (vQ C (QcW D ac ad knM (qV Q)) 0 0 (inLay ad knM)) (μ, ()) 25 [(0, .ref (ad 0)), (1, .int v1), (2, .int v2)] []) (P35 : Int32 → Int32 → Int32 → WS → Prop) (h35 : ∀ (v1 : Int32) (v2 : Int32) (v3 : Int32) (μ : WS), P35 v1 v2 v3 μ → VV C 7 (HPW D ac ad knM Ex (vS C)) (vQ C (QcW D ac ad knM (qV Q)) 0 0 (inLay ad knM)) (μ, ()) 35 [(0, .ref (ad 0)), (1, .int v1), (2, .int v2), (3, .int v3)] []) (v1 : Int32) (v2 : Int32) (v3 : Int32) (μ : WS), w_X4_layClans_176 P25 P35 v1 v2 v3 μ Q → VV C 7 (HPW D ac ad knM Ex (vS C)) (vQ C (QcW D ac ad knM (qV Q)) 0 0 (inLay ad knM)) (μ, ()) 176 [(0, .ref (ad 0)), (1, .int v1), (2, .int v2), (3, .int v3)] [] := by
    intro P25 h25 P35 h35 v1 v2 v3 μ h
    unfold w_X4_layClans_176 at h
    refine vv_iinc (pl := 3) (v := v3 + 1) (lv' := [(3, .int (v3 + 1)), (0, .ref (ad 0)), (1, .int v1), (2, .int v2)]) hC dX4_layClans_176 rfl rfl (by decide) rfl ?_
    refine vv_goto (tgt := 35) hC dX4_layClans_179 rfl ?_
    refine vv_lv [1, 2, 3, 0] rfl ?_
    exact h35 _ _ _ _ h
  have L170 : ∀ (P25 : Int32 → Int32 → WS → Prop) (h25 : ∀ (v1 : Int32) (v2 : Int32) (μ : WS), P25 v1 v2 μ → VV C 7 (HPW D ac ad knM Ex (vS C)) (vQ C (QcW D ac ad knM (qV Q)) 0 0 (inLay ad knM)) (μ, ()) 25 [(0, .ref (ad 0)), (1, .int v1), (2, .int v2)] []) (P35 : Int32 → Int32 → Int32 → WS → Prop) (h35 : ∀ (v1 : Int32) (v2 : Int32) (v3 : Int32) (μ : WS), P35 v1 v2 v3 μ → VV C 7 (HPW D ac ad knM Ex (vS C)) (vQ C (QcW D ac ad knM (qV Q)) 0 0 (inLay ad knM)) (μ, ()) 35 [(0, .ref (ad 0)), (1, .int v1), (2, .int v2), (3, .int v3)] []) (P140 : Int32 → Int32 → Int32 → Int32 → Int32 → Int32 → WS → Prop) (h140 : ∀ (v1 : Int32) (v2 : Int32) (v3 : Int32) (v4 : Int32) (v5 : Int32) (v6 : Int32) (μ : WS), P140 v1 v2 v3 v4 v5 v6 μ → VV C 7 (HPW D ac ad knM Ex (vS C)) (vQ C (QcW D ac ad knM (qV Q)) 0 0 (inLay ad knM)) (μ, ()) 140 [(0, .ref (ad 0)), (1, .int v1), (2, .int v2), (3, .int v3), (4, .int v4), (5, .int v5), (6, .int v6)] []) (v1 : Int32) (v2 : Int32) (v3 : Int32) (v4 : Int32) (v5 : Int32) (v6 : Int32) (μ : WS), w_X4_layClans_170 P25 P35 P140 v1 v2 v3 v4 v5 v6 μ Q → VV C 7 (HPW D ac ad knM Ex (vS C)) (vQ C (QcW D ac ad knM (qV Q)) 0 0 (inLay ad knM)) (μ, ()) 170 [(0, .ref (ad 0)), (1, .int v1), (2, .int v2), (3, .int v3), (4, .int v4), (5, .int v5), (6, .int v6)] [] := by
    intro P25 h25 P35 h35 P140 h140 v1 v2 v3 v4 v5 v6 μ h
    unfold w_X4_layClans_170 at h
    refine vv_iinc (pl := 6) (v := v6 + 1) (lv' := [(6, .int (v6 + 1)), (0, .ref (ad 0)), (1, .int v1), (2, .int v2), (3, .int v3), (4, .int v4), (5, .int v5)]) hC dX4_layClans_170 rfl rfl (by decide) rfl ?_
    refine vv_goto (tgt := 140) hC dX4_layClans_173 rfl ?_
    refine vv_lv [1, 2, 3, 4, 5, 6, 0] rfl ?_
    exact h140 _ _ _ _ _ _ _ h
  have L140 : ∀ (P25 : Int32 → Int32 → WS → Prop) (h25 : ∀ (v1 : Int32) (v2 : Int32) (μ : WS), P25 v1 v2 μ → VV C 7 (HPW D ac ad knM Ex (vS C)) (vQ C (QcW D ac ad knM (qV Q)) 0 0 (inLay ad knM)) (μ, ()) 25 [(0, .ref (ad 0)), (1, .int v1), (2, .int v2)] []) (P35 : Int32 → Int32 → Int32 → WS → Prop) (h35 : ∀ (v1 : Int32) (v2 : Int32) (v3 : Int32) (μ : WS), P35 v1 v2 v3 μ → VV C 7 (HPW D ac ad knM Ex (vS C)) (vQ C (QcW D ac ad knM (qV Q)) 0 0 (inLay ad knM)) (μ, ()) 35 [(0, .ref (ad 0)), (1, .int v1), (2, .int v2), (3, .int v3)] []) (v1 : Int32) (v2 : Int32) (v3 : Int32) (v4 : Int32) (v5 : Int32) (v6 : Int32) (μ : WS), w_X4_layClans_140 P25 P35 v1 v2 v3 v4 v5 v6 μ Q → VV C 7 (HPW D ac ad knM Ex (vS C)) (vQ C (QcW D ac ad knM (qV Q)) 0 0 (inLay ad knM)) (μ, ()) 140 [(0, .ref (ad 0)), (1, .int v1), (2, .int v2), (3, .int v3), (4, .int v4), (5, .int v5), (6, .int v6)] [] := by
    intro P25 h25 P35 h35 v1 v2 v3 v4 v5 v6 μ h
    refine h (fun v1 v2 v3 v4 v5 v6 μ => VV C 7 (HPW D ac ad knM Ex (vS C)) (vQ C (QcW D ac ad knM (qV Q)) 0 0 (inLay ad knM)) (μ, ()) 140 [(0, .ref (ad 0)), (1, .int v1), (2, .int v2), (3, .int v3), (4, .int v4), (5, .int v5), (6, .int v6)] []) ?_
    clear h; intro v1 v2 v3 v4 v5 v6 μ h
    have h140 : ∀ (v1 : Int32) (v2 : Int32) (v3 : Int32) (v4 : Int32) (v5 : Int32) (v6 : Int32) (μ : WS), (fun v1 v2 v3 v4 v5 v6 (μ : WS) => VV C 7 (HPW D ac ad knM Ex (vS C)) (vQ C (QcW D ac ad knM (qV Q)) 0 0 (inLay ad knM)) (μ, ()) 140 [(0, .ref (ad 0)), (1, .int v1), (2, .int v2), (3, .int v3), (4, .int v4), (5, .int v5), (6, .int v6)] []) v1 v2 v3 v4 v5 v6 μ → VV C 7 (HPW D ac ad knM Ex (vS C)) (vQ C (QcW D ac ad knM (qV Q)) 0 0 (inLay ad knM)) (μ, ()) 140 [(0, .ref (ad 0)), (1, .int v1), (2, .int v2), (3, .int v3), (4, .int v4), (5, .int v5), (6, .int v6)] [] := fun _ _ _ _ _ _ _ h => h
    unfold w_X4_layClans_140b at h
    refine vv_iload hC dX4_layClans_140 6 rfl ?_
    refine vv_aload_n hC dX4_layClans_142 rfl 0 rfl ?_
    refine vv_getf hC hR hK fa4_427 0 lm_0 (fm_63 ad _ _ _) dX4_layClans_143 ?_
    refine vv_icmp_ge (tgt := 176) hC dX4_layClans_146 rfl (fun c9 => ?_) (fun c9 => ?_)
    · replace h := h.1 c9
      refine vv_lv [0, 1, 2, 3] rfl ?_
      exact L176 _ h25 _ h35 _ _ _ _ h
    · replace h := h.2 c9
      refine vv_aload_n hC dX4_layClans_149 rfl 0 rfl ?_
      refine vv_getf hC hR hK fa4_132 0 lm_0 (fm_64 ad _ _ _) dX4_layClans_150 ?_
      refine vv_iload hC dX4_layClans_153 6 rfl ?_
      obtain ⟨hin, h⟩ := h
      refine vv_iald hC hR hK 39 lm_39 hin dX4_layClans_155 ?_
      refine vv_iload hC dX4_layClans_156 5 rfl ?_
      refine vv_icmp_ne (tgt := 170) hC dX4_layClans_158 rfl (fun c10 => ?_) (fun c10 => ?_)
      · replace h := h.1 c10
        exact L170 _ h25 _ h35 _ h140 _ _ _ _ _ _ _ h
      · replace h := h.2 c10
        refine vv_aload_n hC dX4_layClans_161 rfl 0 rfl ?_
        refine vv_getf hC hR hK fa4_132 0 lm_0 (fm_64 ad _ _ _) dX4_layClans_162 ?_
        refine vv_iload hC dX4_layClans_165 6 rfl ?_
        refine vv_iload hC dX4_layClans_167 4 rfl ?_
        obtain ⟨hin, h⟩ := h
        refine vv_iast hC hR hK 39 lm_39 hin dX4_layClans_169 ?_
        refine vv_st (fun y e => ?_)
        obtain ⟨μ11, _⟩ := y
        have eμ11 := congrArg Prod.fst e
        clear e
        replace h := h μ11 eμ11
        exact L170 _ h25 _ h35 _ h140 _ _ _ _ _ _ _ h
  have L135 : ∀ (P25 : Int32 → Int32 → WS → Prop) (h25 : ∀ (v1 : Int32) (v2 : Int32) (μ : WS), P25 v1 v2 μ → VV C 7 (HPW D ac ad knM Ex (vS C)) (vQ C (QcW D ac ad knM (qV Q)) 0 0 (inLay ad knM)) (μ, ()) 25 [(0, .ref (ad 0)), (1, .int v1), (2, .int v2)] []) (P35 : Int32 → Int32 → Int32 → WS → Prop) (h35 : ∀ (v1 : Int32) (v2 : Int32) (v3 : Int32) (μ : WS), P35 v1 v2 v3 μ → VV C 7 (HPW D ac ad knM Ex (vS C)) (vQ C (QcW D ac ad knM (qV Q)) 0 0 (inLay ad knM)) (μ, ()) 35 [(0, .ref (ad 0)), (1, .int v1), (2, .int v2), (3, .int v3)] []) (s0 : Int32) (v1 : Int32) (v2 : Int32) (v3 : Int32) (v4 : Int32) (μ : WS), w_X4_layClans_135 P25 P35 s0 v1 v2 v3 v4 μ Q → VV C 7 (HPW D ac ad knM Ex (vS C)) (vQ C (QcW D ac ad knM (qV Q)) 0 0 (inLay ad knM)) (μ, ()) 135 [(0, .ref (ad 0)), (1, .int v1), (2, .int v2), (3, .int v3), (4, .int v4)] [.int s0] := by
    intro P25 h25 P35 h35 s0 v1 v2 v3 v4 μ h
    unfold w_X4_layClans_135 at h
    refine vv_istore (lv' := [(5, .int s0), (0, .ref (ad 0)), (1, .int v1), (2, .int v2), (3, .int v3), (4, .int v4)]) hC dX4_layClans_135 (by decide) rfl ?_
    refine vv_iconst hC dX4_layClans_137 ic_0 ?_
    refine vv_istore (lv' := [(6, .int 0), (5, .int s0), (0, .ref (ad 0)), (1, .int v1), (2, .int v2), (3, .int v3), (4, .int v4)]) hC dX4_layClans_138 (by decide) rfl ?_
    refine vv_lv [2, 3, 4, 5, 6, 1, 0] rfl ?_
    exact L140 _ h25 _ h35 _ _ _ _ _ _ _ h
  have L103 : ∀ (P25 : Int32 → Int32 → WS → Prop) (h25 : ∀ (v1 : Int32) (v2 : Int32) (μ : WS), P25 v1 v2 μ → VV C 7 (HPW D ac ad knM Ex (vS C)) (vQ C (QcW D ac ad knM (qV Q)) 0 0 (inLay ad knM)) (μ, ()) 25 [(0, .ref (ad 0)), (1, .int v1), (2, .int v2)] []) (P35 : Int32 → Int32 → Int32 → WS → Prop) (h35 : ∀ (v1 : Int32) (v2 : Int32) (v3 : Int32) (μ : WS), P35 v1 v2 v3 μ → VV C 7 (HPW D ac ad knM Ex (vS C)) (vQ C (QcW D ac ad knM (qV Q)) 0 0 (inLay ad knM)) (μ, ()) 35 [(0, .ref (ad 0)), (1, .int v1), (2, .int v2), (3, .int v3)] []) (s0 : Int32) (v1 : Int32) (v2 : Int32) (v3 : Int32) (μ : WS), w_X4_layClans_103 P25 P35 s0 v1 v2 v3 μ Q → VV C 7 (HPW D ac ad knM Ex (vS C)) (vQ C (QcW D ac ad knM (qV Q)) 0 0 (inLay ad knM)) (μ, ()) 103 [(0, .ref (ad 0)), (1, .int v1), (2, .int v2), (3, .int v3)] [.int s0] := by
    intro P25 h25 P35 h35 s0 v1 v2 v3 μ h
    unfold w_X4_layClans_103 at h
    refine vv_istore (lv' := [(4, .int s0), (0, .ref (ad 0)), (1, .int v1), (2, .int v2), (3, .int v3)]) hC dX4_layClans_103 (by decide) rfl ?_
    refine vv_aload_n hC dX4_layClans_105 rfl 1 rfl ?_
    refine vv_getf hC hR hK fa4_132 0 lm_0 (fm_64 ad _ _ _) dX4_layClans_106 ?_
    refine vv_iload_n hC dX4_layClans_109 rfl 3 rfl ?_
    obtain ⟨hin, h⟩ := h
    refine vv_iald hC hR hK 39 lm_39 hin dX4_layClans_110 ?_
    refine vv_aload_n hC dX4_layClans_111 rfl 1 rfl ?_
    refine vv_getf hC hR hK fa4_132 0 lm_0 (fm_64 ad _ _ _) dX4_layClans_112 ?_
    refine vv_iload_n hC dX4_layClans_115 rfl 4 rfl ?_
    obtain ⟨hin, h⟩ := h
    refine vv_iald hC hR hK 39 lm_39 hin dX4_layClans_116 ?_
    refine vv_icmp_ge (tgt := 129) hC dX4_layClans_117 rfl (fun c8 => ?_) (fun c8 => ?_)
    · replace h := h.1 c8
      refine vv_aload_n hC dX4_layClans_129 rfl 1 rfl ?_
      refine vv_getf hC hR hK fa4_132 0 lm_0 (fm_64 ad _ _ _) dX4_layClans_130 ?_
      refine vv_iload_n hC dX4_layClans_133 rfl 3 rfl ?_
      obtain ⟨hin, h⟩ := h
      refine vv_iald hC hR hK 39 lm_39 hin dX4_layClans_134 ?_
      refine vv_lv [1, 2, 3, 4, 0] rfl ?_
      exact L135 _ h25 _ h35 _ _ _ _ _ _ h
    · replace h := h.2 c8
      refine vv_aload_n hC dX4_layClans_120 rfl 1 rfl ?_
      refine vv_getf hC hR hK fa4_132 0 lm_0 (fm_64 ad _ _ _) dX4_layClans_121 ?_
      refine vv_iload_n hC dX4_layClans_124 rfl 4 rfl ?_
      obtain ⟨hin, h⟩ := h
      refine vv_iald hC hR hK 39 lm_39 hin dX4_layClans_125 ?_
      refine vv_goto (tgt := 135) hC dX4_layClans_126 rfl ?_
      refine vv_lv [1, 2, 3, 4, 0] rfl ?_
      exact L135 _ h25 _ h35 _ _ _ _ _ _ h
  have L73 : ∀ (P25 : Int32 → Int32 → WS → Prop) (h25 : ∀ (v1 : Int32) (v2 : Int32) (μ : WS), P25 v1 v2 μ → VV C 7 (HPW D ac ad knM Ex (vS C)) (vQ C (QcW D ac ad knM (qV Q)) 0 0 (inLay ad knM)) (μ, ()) 25 [(0, .ref (ad 0)), (1, .int v1), (2, .int v2)] []) (P35 : Int32 → Int32 → Int32 → WS → Prop) (h35 : ∀ (v1 : Int32) (v2 : Int32) (v3 : Int32) (μ : WS), P35 v1 v2 v3 μ → VV C 7 (HPW D ac ad knM Ex (vS C)) (vQ C (QcW D ac ad knM (qV Q)) 0 0 (inLay ad knM)) (μ, ()) 35 [(0, .ref (ad 0)), (1, .int v1), (2, .int v2), (3, .int v3)] []) (v1 : Int32) (v2 : Int32) (v3 : Int32) (μ : WS), w_X4_layClans_73 P25 P35 v1 v2 v3 μ Q → VV C 7 (HPW D ac ad knM Ex (vS C)) (vQ C (QcW D ac ad knM (qV Q)) 0 0 (inLay ad knM)) (μ, ()) 73 [(0, .ref (ad 0)), (1, .int v1), (2, .int v2), (3, .int v3)] [] := by
    intro P25 h25 P35 h35 v1 v2 v3 μ h
    unfold w_X4_layClans_73 at h
    refine vv_aload_n hC dX4_layClans_73 rfl 0 rfl ?_
    refine vv_getf hC hR hK fa4_132 0 lm_0 (fm_64 ad _ _ _) dX4_layClans_74 ?_
    refine vv_iload_n hC dX4_layClans_77 rfl 2 rfl ?_
    obtain ⟨hin, h⟩ := h
    refine vv_iald hC hR hK 39 lm_39 hin dX4_layClans_78 ?_
    refine vv_aload_n hC dX4_layClans_79 rfl 0 rfl ?_
    refine vv_getf hC hR hK fa4_132 0 lm_0 (fm_64 ad _ _ _) dX4_layClans_80 ?_
    refine vv_iload_n hC dX4_layClans_83 rfl 3 rfl ?_
    obtain ⟨hin, h⟩ := h
    refine vv_iald hC hR hK 39 lm_39 hin dX4_layClans_84 ?_
    refine vv_icmp_ge (tgt := 97) hC dX4_layClans_85 rfl (fun c7 => ?_) (fun c7 => ?_)
    · replace h := h.1 c7
      refine vv_aload_n hC dX4_layClans_97 rfl 0 rfl ?_
      refine vv_getf hC hR hK fa4_132 0 lm_0 (fm_64 ad _ _ _) dX4_layClans_98 ?_
      refine vv_iload_n hC dX4_layClans_101 rfl 3 rfl ?_
      obtain ⟨hin, h⟩ := h
      refine vv_iald hC hR hK 39 lm_39 hin dX4_layClans_102 ?_
      exact L103 _ h25 _ h35 _ _ _ _ _ h
    · replace h := h.2 c7
      refine vv_aload_n hC dX4_layClans_88 rfl 0 rfl ?_
      refine vv_getf hC hR hK fa4_132 0 lm_0 (fm_64 ad _ _ _) dX4_layClans_89 ?_
      refine vv_iload_n hC dX4_layClans_92 rfl 2 rfl ?_
      obtain ⟨hin, h⟩ := h
      refine vv_iald hC hR hK 39 lm_39 hin dX4_layClans_93 ?_
      refine vv_goto (tgt := 103) hC dX4_layClans_94 rfl ?_
      exact L103 _ h25 _ h35 _ _ _ _ _ h
  have L35 : ∀ (P25 : Int32 → Int32 → WS → Prop) (h25 : ∀ (v1 : Int32) (v2 : Int32) (μ : WS), P25 v1 v2 μ → VV C 7 (HPW D ac ad knM Ex (vS C)) (vQ C (QcW D ac ad knM (qV Q)) 0 0 (inLay ad knM)) (μ, ()) 25 [(0, .ref (ad 0)), (1, .int v1), (2, .int v2)] []) (v1 : Int32) (v2 : Int32) (v3 : Int32) (μ : WS), w_X4_layClans_35 P25 v1 v2 v3 μ Q → VV C 7 (HPW D ac ad knM Ex (vS C)) (vQ C (QcW D ac ad knM (qV Q)) 0 0 (inLay ad knM)) (μ, ()) 35 [(0, .ref (ad 0)), (1, .int v1), (2, .int v2), (3, .int v3)] [] := by
    intro P25 h25 v1 v2 v3 μ h
    refine h (fun v1 v2 v3 μ => VV C 7 (HPW D ac ad knM Ex (vS C)) (vQ C (QcW D ac ad knM (qV Q)) 0 0 (inLay ad knM)) (μ, ()) 35 [(0, .ref (ad 0)), (1, .int v1), (2, .int v2), (3, .int v3)] []) ?_
    clear h; intro v1 v2 v3 μ h
    have h35 : ∀ (v1 : Int32) (v2 : Int32) (v3 : Int32) (μ : WS), (fun v1 v2 v3 (μ : WS) => VV C 7 (HPW D ac ad knM Ex (vS C)) (vQ C (QcW D ac ad knM (qV Q)) 0 0 (inLay ad knM)) (μ, ()) 35 [(0, .ref (ad 0)), (1, .int v1), (2, .int v2), (3, .int v3)] []) v1 v2 v3 μ → VV C 7 (HPW D ac ad knM Ex (vS C)) (vQ C (QcW D ac ad knM (qV Q)) 0 0 (inLay ad knM)) (μ, ()) 35 [(0, .ref (ad 0)), (1, .int v1), (2, .int v2), (3, .int v3)] [] := fun _ _ _ _ h => h
    unfold w_X4_layClans_35b at h
    refine vv_iload_n hC dX4_layClans_35 rfl 3 rfl ?_
    refine vv_iload_n hC dX4_layClans_36 rfl 2 rfl ?_
    refine vv_icmp_ge (tgt := 182) hC dX4_layClans_37 rfl (fun c4 => ?_) (fun c4 => ?_)
    · replace h := h.1 c4
      refine vv_iinc (pl := 2) (v := v2 + 1) (lv' := [(2, .int (v2 + 1)), (0, .ref (ad 0)), (1, .int v1), (3, .int v3)]) hC dX4_layClans_182 rfl rfl (by decide) rfl ?_
      refine vv_goto (tgt := 25) hC dX4_layClans_185 rfl ?_
      refine vv_lv [1, 2, 0] rfl ?_
      exact h25 _ _ _ h
    · replace h := h.2 c4
      refine vv_aload_n hC dX4_layClans_40 rfl 0 rfl ?_
      refine vv_getf hC hR hK fa4_129 0 lm_0 (fm_62 ad _ _ _) dX4_layClans_41 ?_
      refine vv_bipush hC dX4_layClans_44 bp_7 ?_
      refine vv_iload_n hC dX4_layClans_46 rfl 2 rfl ?_
      refine vv_imul hC dX4_layClans_47 ?_
      refine vv_iload_n hC dX4_layClans_48 rfl 3 rfl ?_
      refine vv_iadd hC dX4_layClans_49 ?_
      obtain ⟨hin, h⟩ := h
      refine vv_iald hC hR hK 38 lm_38 hin dX4_layClans_50 ?_
      refine vv_iload_n hC dX4_layClans_51 rfl 1 rfl ?_
      refine vv_icmp_le (tgt := 73) hC dX4_layClans_52 rfl (fun c5 => ?_) (fun c5 => ?_)
      · replace h := h.1 c5
        exact L73 _ h25 _ h35 _ _ _ _ h
      · replace h := h.2 c5
        refine vv_aload_n hC dX4_layClans_55 rfl 0 rfl ?_
        refine vv_getf hC hR hK fa4_129 0 lm_0 (fm_62 ad _ _ _) dX4_layClans_56 ?_
        refine vv_bipush hC dX4_layClans_59 bp_7 ?_
        refine vv_iload_n hC dX4_layClans_61 rfl 3 rfl ?_
        refine vv_imul hC dX4_layClans_62 ?_
        refine vv_iload_n hC dX4_layClans_63 rfl 2 rfl ?_
        refine vv_iadd hC dX4_layClans_64 ?_
        obtain ⟨hin, h⟩ := h
        refine vv_iald hC hR hK 38 lm_38 hin dX4_layClans_65 ?_
        refine vv_iload_n hC dX4_layClans_66 rfl 1 rfl ?_
        refine vv_icmp_le (tgt := 73) hC dX4_layClans_67 rfl (fun c6 => ?_) (fun c6 => ?_)
        · replace h := h.1 c6
          exact L73 _ h25 _ h35 _ _ _ _ h
        · replace h := h.2 c6
          refine vv_goto (tgt := 176) hC dX4_layClans_70 rfl ?_
          exact L176 _ h25 _ h35 _ _ _ _ h
  have L25 : ∀ (v1 : Int32) (v2 : Int32) (μ : WS), w_X4_layClans_25  v1 v2 μ Q → VV C 7 (HPW D ac ad knM Ex (vS C)) (vQ C (QcW D ac ad knM (qV Q)) 0 0 (inLay ad knM)) (μ, ()) 25 [(0, .ref (ad 0)), (1, .int v1), (2, .int v2)] [] := by
    intro  v1 v2 μ h
    refine h (fun v1 v2 μ => VV C 7 (HPW D ac ad knM Ex (vS C)) (vQ C (QcW D ac ad knM (qV Q)) 0 0 (inLay ad knM)) (μ, ()) 25 [(0, .ref (ad 0)), (1, .int v1), (2, .int v2)] []) ?_
    clear h; intro v1 v2 μ h
    have h25 : ∀ (v1 : Int32) (v2 : Int32) (μ : WS), (fun v1 v2 (μ : WS) => VV C 7 (HPW D ac ad knM Ex (vS C)) (vQ C (QcW D ac ad knM (qV Q)) 0 0 (inLay ad knM)) (μ, ()) 25 [(0, .ref (ad 0)), (1, .int v1), (2, .int v2)] []) v1 v2 μ → VV C 7 (HPW D ac ad knM Ex (vS C)) (vQ C (QcW D ac ad knM (qV Q)) 0 0 (inLay ad knM)) (μ, ()) 25 [(0, .ref (ad 0)), (1, .int v1), (2, .int v2)] [] := fun _ _ _ h => h
    unfold w_X4_layClans_25b at h
    refine vv_iload_n hC dX4_layClans_25 rfl 2 rfl ?_
    refine vv_aload_n hC dX4_layClans_26 rfl 0 rfl ?_
    refine vv_getf hC hR hK fa4_427 0 lm_0 (fm_63 ad _ _ _) dX4_layClans_27 ?_
    refine vv_icmp_ge (tgt := 188) hC dX4_layClans_30 rfl (fun c3 => ?_) (fun c3 => ?_)
    · replace h := h.1 c3
      exact vv_vret hC hM dX4_layClans_188 h
    · replace h := h.2 c3
      refine vv_iconst hC dX4_layClans_33 ic_0 ?_
      refine vv_istore_n (lv' := [(3, .int 0), (0, .ref (ad 0)), (1, .int v1), (2, .int v2)]) hC dX4_layClans_34 rfl (by decide) rfl ?_
      refine vv_lv [1, 2, 3, 0] rfl ?_
      exact L35 _ h25 _ _ _ _ h
  have L2 : ∀ (v1 : Int32) (v2 : Int32) (μ : WS), w_X4_layClans_2  v1 v2 μ Q → VV C 7 (HPW D ac ad knM Ex (vS C)) (vQ C (QcW D ac ad knM (qV Q)) 0 0 (inLay ad knM)) (μ, ()) 2 [(0, .ref (ad 0)), (1, .int v1), (2, .int v2)] [] := by
    intro  v1 v2 μ h
    refine h (fun v1 v2 μ => VV C 7 (HPW D ac ad knM Ex (vS C)) (vQ C (QcW D ac ad knM (qV Q)) 0 0 (inLay ad knM)) (μ, ()) 2 [(0, .ref (ad 0)), (1, .int v1), (2, .int v2)] []) ?_
    clear h; intro v1 v2 μ h
    have h2 : ∀ (v1 : Int32) (v2 : Int32) (μ : WS), (fun v1 v2 (μ : WS) => VV C 7 (HPW D ac ad knM Ex (vS C)) (vQ C (QcW D ac ad knM (qV Q)) 0 0 (inLay ad knM)) (μ, ()) 2 [(0, .ref (ad 0)), (1, .int v1), (2, .int v2)] []) v1 v2 μ → VV C 7 (HPW D ac ad knM Ex (vS C)) (vQ C (QcW D ac ad knM (qV Q)) 0 0 (inLay ad knM)) (μ, ()) 2 [(0, .ref (ad 0)), (1, .int v1), (2, .int v2)] [] := fun _ _ _ h => h
    unfold w_X4_layClans_2b at h
    refine vv_iload_n hC dX4_layClans_2 rfl 2 rfl ?_
    refine vv_aload_n hC dX4_layClans_3 rfl 0 rfl ?_
    refine vv_getf hC hR hK fa4_427 0 lm_0 (fm_63 ad _ _ _) dX4_layClans_4 ?_
    refine vv_icmp_ge (tgt := 23) hC dX4_layClans_7 rfl (fun c1 => ?_) (fun c1 => ?_)
    · replace h := h.1 c1
      refine vv_iconst hC dX4_layClans_23 ic_0 ?_
      refine vv_istore_n (lv' := [(2, .int 0), (0, .ref (ad 0)), (1, .int v1)]) hC dX4_layClans_24 rfl (by decide) rfl ?_
      refine vv_lv [1, 2, 0] rfl ?_
      exact L25  _ _ _ h
    · replace h := h.2 c1
      refine vv_aload_n hC dX4_layClans_10 rfl 0 rfl ?_
      refine vv_getf hC hR hK fa4_132 0 lm_0 (fm_64 ad _ _ _) dX4_layClans_11 ?_
      refine vv_iload_n hC dX4_layClans_14 rfl 2 rfl ?_
      refine vv_iload_n hC dX4_layClans_15 rfl 2 rfl ?_
      obtain ⟨hin, h⟩ := h
      refine vv_iast hC hR hK 39 lm_39 hin dX4_layClans_16 ?_
      refine vv_st (fun y e => ?_)
      obtain ⟨μ2, _⟩ := y
      have eμ2 := congrArg Prod.fst e
      clear e
      replace h := h μ2 eμ2
      refine vv_iinc (pl := 2) (v := v2 + 1) (lv' := [(2, .int (v2 + 1)), (0, .ref (ad 0)), (1, .int v1)]) hC dX4_layClans_17 rfl rfl (by decide) rfl ?_
      refine vv_goto (tgt := 2) hC dX4_layClans_20 rfl ?_
      refine vv_lv [1, 2, 0] rfl ?_
      exact h2 _ _ _ h
  unfold w_X4_layClans at h
  refine vv_iconst hC dX4_layClans_0 ic_0 ?_
  refine vv_istore_n (lv' := [(2, .int 0), (0, .ref (ad 0)), (1, .int v1)]) hC dX4_layClans_1 rfl (by decide) rfl ?_
  refine vv_lv [1, 2, 0] rfl ?_
  exact L2  _ _ _ h
def w_X4_clans_118 (P40 : Int32 → Int32 → Int32 → Int32 → WS → Prop) (v2 : Int32) (v4 : Int32) (v5 : Int32) (v6 : Int32) (μ : WS) (Q : Int32 → WS → Prop) : Prop := P40 v2 v4 v5 (v6 + 1) μ
def w_X4_clans_104 (P40 : Int32 → Int32 → Int32 → Int32 → WS → Prop) (s0 : Int32) (s1 : Int32) (v2 : Int32) (v5 : Int32) (v6 : Int32) (v7 : Int32) (μ : WS) (Q : Int32 → WS → Prop) : Prop := (∀ x17 : Int32, x17 = s1 + s0 → ((v7 ≤ v5) → w_X4_clans_118 P40 v2 x17 v5 v6 μ Q) ∧ ((¬ v7 ≤ v5) → w_X4_clans_118 P40 v2 x17 v7 v6 μ Q))
def w_X4_clans_83 (P40 : Int32 → Int32 → Int32 → Int32 → WS → Prop) (P55 : Int32 → Int32 → Int32 → Int32 → Int32 → Int32 → WS → Prop) (s0 : Int32) (s1 : Int32) (v2 : Int32) (v4 : Int32) (v5 : Int32) (v6 : Int32) (v8 : Int32) (μ : WS) (Q : Int32 → WS → Prop) : Prop := (∀ x16 : Int32, x16 = s1 + s0 → P55 v2 v4 v5 v6 x16 (v8 + 1) μ)
def w_X4_clans_55b (P40 : Int32 → Int32 → Int32 → Int32 → WS → Prop) (P55 : Int32 → Int32 → Int32 → Int32 → Int32 → Int32 → WS → Prop) (v2 : Int32) (v4 : Int32) (v5 : Int32) (v6 : Int32) (v7 : Int32) (v8 : Int32) (μ : WS) (Q : Int32 → WS → Prop) : Prop := ((μ.1 0 63 ≤ v8) → ((v7 ≤ 0) → w_X4_clans_104 P40 0 v4 v2 v5 v6 v7 μ Q) ∧ ((¬ v7 ≤ 0) → w_X4_clans_104 P40 1 v4 v2 v5 v6 v7 μ Q)) ∧ ((¬ μ.1 0 63 ≤ v8) → (vp_in v8 7 ∧ ((¬ μ.1 39 v8.toNatClampNeg = v6) → w_X4_clans_83 P40 P55 0 v7 v2 v4 v5 v6 v8 μ Q) ∧ ((μ.1 39 v8.toNatClampNeg = v6) → w_X4_clans_83 P40 P55 1 v7 v2 v4 v5 v6 v8 μ Q)))
def w_X4_clans_55 (P40 : Int32 → Int32 → Int32 → Int32 → WS → Prop) (v2 : Int32) (v4 : Int32) (v5 : Int32) (v6 : Int32) (v7 : Int32) (v8 : Int32) (μ : WS) (Q : Int32 → WS → Prop) : Prop := ∀ P55 : Int32 → Int32 → Int32 → Int32 → Int32 → Int32 → WS → Prop, (∀ (v2 : Int32) (v4 : Int32) (v5 : Int32) (v6 : Int32) (v7 : Int32) (v8 : Int32) (μ : WS), w_X4_clans_55b P40 P55 v2 v4 v5 v6 v7 v8 μ Q → P55 v2 v4 v5 v6 v7 v8 μ) → P55 v2 v4 v5 v6 v7 v8 μ
def w_X4_clans_40b (P40 : Int32 → Int32 → Int32 → Int32 → WS → Prop) (v2 : Int32) (v4 : Int32) (v5 : Int32) (v6 : Int32) (μ : WS) (Q : Int32 → WS → Prop) : Prop := ((μ.1 0 63 ≤ v6) → ((¬ v2 = 0) → Q v5 μ) ∧ ((v2 = 0) → Q v4 μ)) ∧ ((¬ μ.1 0 63 ≤ v6) → w_X4_clans_55 P40 v2 v4 v5 v6 0 0 μ Q)
def w_X4_clans_40 (v2 : Int32) (v4 : Int32) (v5 : Int32) (v6 : Int32) (μ : WS) (Q : Int32 → WS → Prop) : Prop := ∀ P40 : Int32 → Int32 → Int32 → Int32 → WS → Prop, (∀ (v2 : Int32) (v4 : Int32) (v5 : Int32) (v6 : Int32) (μ : WS), w_X4_clans_40b  P40 v2 v4 v5 v6 μ Q → P40 v2 v4 v5 v6 μ) → P40 v2 v4 v5 v6 μ
def w_X4_clans (v1 : Int32) (v2 : Int32) (v3 : Int32) (μ : WS) (Q : Int32 → WS → Prop) : Prop := (w_X4_isIn v1 0 24 μ (fun r2 μ1 => ((r2 = 0) → Q (-1) μ1) ∧ ((¬ r2 = 0) → (w_X4_isIn v2 0 1 μ1 (fun r5 μ4 => ((¬ r5 = 0) → (w_X4_laySamples v3 μ4 (fun μ7 => (w_X4_layClans v1 μ7 (fun μ9 => w_X4_clans_40 v2 0 0 0 μ9 Q))))) ∧ ((r5 = 0) → Q (-1) μ4))))))
abbrev rm_X4_clans : Room := { frames := 3, cells := 0, slots := 0, locals := 67 }
theorem mf_X4_clans : MFact yX4_clans 3 rm_X4_clans := ⟨by decide +kernel, rfl, rfl⟩
set_option maxHeartbeats 4000000 in
theorem met_X4_clans (l : Launch) (D : va_G) (ac : Nat → ClassId) (ad : Nat → Nat) (Ex : Heap → Prop) (hLay : LayOk ad knM) (hEx : ExOk ad knM Ex) (v1 : Int32) (v2 : Int32) (v3 : Int32) (μ : WS) (Q : Int32 → WS → Prop) (h : w_X4_clans v1 v2 v3 μ Q) : CMet l yX4_clans cX4_clans 9 (some .int) rm_X4_clans D ac ad knM Ex [.ref (ad 0), .int v1, .int v2, .int v3] μ (qI Q) := by
  refine vv_met (lv := [(0, .ref (ad 0)), (1, .int v1), (2, .int v2), (3, .int v3)]) (by decide) hLay hEx (Nat.le_of_ble_eq_true rfl) rfl ⟨rfl, rfl⟩ (fun C hC hK hRm hLl hR hM => ?_)
  subst hLl
  have hRo : RoomOk (HPW D ac ad knM Ex (vS C)) (vR C) := HPW.room
  have L118 : ∀ (P40 : Int32 → Int32 → Int32 → Int32 → WS → Prop) (h40 : ∀ (v2 : Int32) (v4 : Int32) (v5 : Int32) (v6 : Int32) (μ : WS), P40 v2 v4 v5 v6 μ → VV C 9 (HPW D ac ad knM Ex (vS C)) (vQ C (QcW D ac ad knM (qI Q)) 0 0 (inLay ad knM)) (μ, ()) 40 [(0, .ref (ad 0)), (2, .int v2), (4, .int v4), (5, .int v5), (6, .int v6)] []) (v2 : Int32) (v4 : Int32) (v5 : Int32) (v6 : Int32) (μ : WS), w_X4_clans_118 P40 v2 v4 v5 v6 μ Q → VV C 9 (HPW D ac ad knM Ex (vS C)) (vQ C (QcW D ac ad knM (qI Q)) 0 0 (inLay ad knM)) (μ, ()) 118 [(0, .ref (ad 0)), (2, .int v2), (4, .int v4), (5, .int v5), (6, .int v6)] [] := by
    intro P40 h40 v2 v4 v5 v6 μ h
    unfold w_X4_clans_118 at h
    refine vv_iinc (pl := 4) (v := v6 + 1) (lv' := [(6, .int (v6 + 1)), (0, .ref (ad 0)), (2, .int v2), (4, .int v4), (5, .int v5)]) hC dX4_clans_118 rfl rfl (by decide) rfl ?_
    refine vv_goto (tgt := 40) hC dX4_clans_121 rfl ?_
    refine vv_lv [1, 2, 3, 4, 0] rfl ?_
    exact h40 _ _ _ _ _ h
  have L104 : ∀ (P40 : Int32 → Int32 → Int32 → Int32 → WS → Prop) (h40 : ∀ (v2 : Int32) (v4 : Int32) (v5 : Int32) (v6 : Int32) (μ : WS), P40 v2 v4 v5 v6 μ → VV C 9 (HPW D ac ad knM Ex (vS C)) (vQ C (QcW D ac ad knM (qI Q)) 0 0 (inLay ad knM)) (μ, ()) 40 [(0, .ref (ad 0)), (2, .int v2), (4, .int v4), (5, .int v5), (6, .int v6)] []) (s0 : Int32) (s1 : Int32) (v2 : Int32) (v5 : Int32) (v6 : Int32) (v7 : Int32) (μ : WS), w_X4_clans_104 P40 s0 s1 v2 v5 v6 v7 μ Q → VV C 9 (HPW D ac ad knM Ex (vS C)) (vQ C (QcW D ac ad knM (qI Q)) 0 0 (inLay ad knM)) (μ, ()) 104 [(0, .ref (ad 0)), (2, .int v2), (5, .int v5), (6, .int v6), (7, .int v7)] [.int s0, .int s1] := by
    intro P40 h40 s0 s1 v2 v5 v6 v7 μ h
    unfold w_X4_clans_104 at h
    refine vv_iadd hC dX4_clans_104 ?_
    refine vv_topi (fun x17 ex17 => ?_)
    replace h := h x17 ex17
    refine vv_istore (lv' := [(4, .int x17), (0, .ref (ad 0)), (2, .int v2), (5, .int v5), (6, .int v6), (7, .int v7)]) hC dX4_clans_105 (by decide) rfl ?_
    refine vv_iload hC dX4_clans_107 5 rfl ?_
    refine vv_iload hC dX4_clans_109 3 rfl ?_
    refine vv_icmp_le (tgt := 118) hC dX4_clans_111 rfl (fun c18 => ?_) (fun c18 => ?_)
    · replace h := h.1 c18
      refine vv_lv [1, 2, 0, 3, 4] rfl ?_
      exact L118 _ h40 _ _ _ _ _ h
    · replace h := h.2 c18
      refine vv_iload hC dX4_clans_114 5 rfl ?_
      refine vv_istore (lv' := [(5, .int v7), (4, .int x17), (0, .ref (ad 0)), (2, .int v2), (6, .int v6), (7, .int v7)]) hC dX4_clans_116 (by decide) rfl ?_
      refine vv_lv [2, 3, 1, 0, 4] rfl ?_
      exact L118 _ h40 _ _ _ _ _ h
  have L83 : ∀ (P40 : Int32 → Int32 → Int32 → Int32 → WS → Prop) (h40 : ∀ (v2 : Int32) (v4 : Int32) (v5 : Int32) (v6 : Int32) (μ : WS), P40 v2 v4 v5 v6 μ → VV C 9 (HPW D ac ad knM Ex (vS C)) (vQ C (QcW D ac ad knM (qI Q)) 0 0 (inLay ad knM)) (μ, ()) 40 [(0, .ref (ad 0)), (2, .int v2), (4, .int v4), (5, .int v5), (6, .int v6)] []) (P55 : Int32 → Int32 → Int32 → Int32 → Int32 → Int32 → WS → Prop) (h55 : ∀ (v2 : Int32) (v4 : Int32) (v5 : Int32) (v6 : Int32) (v7 : Int32) (v8 : Int32) (μ : WS), P55 v2 v4 v5 v6 v7 v8 μ → VV C 9 (HPW D ac ad knM Ex (vS C)) (vQ C (QcW D ac ad knM (qI Q)) 0 0 (inLay ad knM)) (μ, ()) 55 [(0, .ref (ad 0)), (2, .int v2), (4, .int v4), (5, .int v5), (6, .int v6), (7, .int v7), (8, .int v8)] []) (s0 : Int32) (s1 : Int32) (v2 : Int32) (v4 : Int32) (v5 : Int32) (v6 : Int32) (v8 : Int32) (μ : WS), w_X4_clans_83 P40 P55 s0 s1 v2 v4 v5 v6 v8 μ Q → VV C 9 (HPW D ac ad knM Ex (vS C)) (vQ C (QcW D ac ad knM (qI Q)) 0 0 (inLay ad knM)) (μ, ()) 83 [(0, .ref (ad 0)), (2, .int v2), (4, .int v4), (5, .int v5), (6, .int v6), (8, .int v8)] [.int s0, .int s1] := by
    intro P40 h40 P55 h55 s0 s1 v2 v4 v5 v6 v8 μ h
    unfold w_X4_clans_83 at h
    refine vv_iadd hC dX4_clans_83 ?_
    refine vv_topi (fun x16 ex16 => ?_)
    replace h := h x16 ex16
    refine vv_istore (lv' := [(7, .int x16), (0, .ref (ad 0)), (2, .int v2), (4, .int v4), (5, .int v5), (6, .int v6), (8, .int v8)]) hC dX4_clans_84 (by decide) rfl ?_
    refine vv_iinc (pl := 6) (v := v8 + 1) (lv' := [(8, .int (v8 + 1)), (7, .int x16), (0, .ref (ad 0)), (2, .int v2), (4, .int v4), (5, .int v5), (6, .int v6)]) hC dX4_clans_86 rfl rfl (by decide) rfl ?_
    refine vv_goto (tgt := 55) hC dX4_clans_89 rfl ?_
    refine vv_lv [2, 3, 4, 5, 6, 1, 0] rfl ?_
    exact h55 _ _ _ _ _ _ _ h
  have L55 : ∀ (P40 : Int32 → Int32 → Int32 → Int32 → WS → Prop) (h40 : ∀ (v2 : Int32) (v4 : Int32) (v5 : Int32) (v6 : Int32) (μ : WS), P40 v2 v4 v5 v6 μ → VV C 9 (HPW D ac ad knM Ex (vS C)) (vQ C (QcW D ac ad knM (qI Q)) 0 0 (inLay ad knM)) (μ, ()) 40 [(0, .ref (ad 0)), (2, .int v2), (4, .int v4), (5, .int v5), (6, .int v6)] []) (v2 : Int32) (v4 : Int32) (v5 : Int32) (v6 : Int32) (v7 : Int32) (v8 : Int32) (μ : WS), w_X4_clans_55 P40 v2 v4 v5 v6 v7 v8 μ Q → VV C 9 (HPW D ac ad knM Ex (vS C)) (vQ C (QcW D ac ad knM (qI Q)) 0 0 (inLay ad knM)) (μ, ()) 55 [(0, .ref (ad 0)), (2, .int v2), (4, .int v4), (5, .int v5), (6, .int v6), (7, .int v7), (8, .int v8)] [] := by
    intro P40 h40 v2 v4 v5 v6 v7 v8 μ h
    refine h (fun v2 v4 v5 v6 v7 v8 μ => VV C 9 (HPW D ac ad knM Ex (vS C)) (vQ C (QcW D ac ad knM (qI Q)) 0 0 (inLay ad knM)) (μ, ()) 55 [(0, .ref (ad 0)), (2, .int v2), (4, .int v4), (5, .int v5), (6, .int v6), (7, .int v7), (8, .int v8)] []) ?_
    clear h; intro v2 v4 v5 v6 v7 v8 μ h
    have h55 : ∀ (v2 : Int32) (v4 : Int32) (v5 : Int32) (v6 : Int32) (v7 : Int32) (v8 : Int32) (μ : WS), (fun v2 v4 v5 v6 v7 v8 (μ : WS) => VV C 9 (HPW D ac ad knM Ex (vS C)) (vQ C (QcW D ac ad knM (qI Q)) 0 0 (inLay ad knM)) (μ, ()) 55 [(0, .ref (ad 0)), (2, .int v2), (4, .int v4), (5, .int v5), (6, .int v6), (7, .int v7), (8, .int v8)] []) v2 v4 v5 v6 v7 v8 μ → VV C 9 (HPW D ac ad knM Ex (vS C)) (vQ C (QcW D ac ad knM (qI Q)) 0 0 (inLay ad knM)) (μ, ()) 55 [(0, .ref (ad 0)), (2, .int v2), (4, .int v4), (5, .int v5), (6, .int v6), (7, .int v7), (8, .int v8)] [] := fun _ _ _ _ _ _ _ h => h
    unfold w_X4_clans_55b at h
    refine vv_iload hC dX4_clans_55 6 rfl ?_
    refine vv_aload_n hC dX4_clans_57 rfl 0 rfl ?_
    refine vv_getf hC hR hK fa4_427 0 lm_0 (fm_63 ad _ _ _) dX4_clans_58 ?_
    refine vv_icmp_ge (tgt := 92) hC dX4_clans_61 rfl (fun c13 => ?_) (fun c13 => ?_)
    · replace h := h.1 c13
      refine vv_iload hC dX4_clans_92 2 rfl ?_
      refine vv_iload hC dX4_clans_94 5 rfl ?_
      refine vv_if_le (tgt := 103) hC dX4_clans_96 rfl (fun c14 => ?_) (fun c14 => ?_)
      · replace h := h.1 c14
        refine vv_iconst hC dX4_clans_103 ic_0 ?_
        refine vv_lv [0, 1, 3, 4, 5] rfl ?_
        exact L104 _ h40 _ _ _ _ _ _ _ h
      · replace h := h.2 c14
        refine vv_iconst hC dX4_clans_99 ic_1 ?_
        refine vv_goto (tgt := 104) hC dX4_clans_100 rfl ?_
        refine vv_lv [0, 1, 3, 4, 5] rfl ?_
        exact L104 _ h40 _ _ _ _ _ _ _ h
    · replace h := h.2 c13
      refine vv_iload hC dX4_clans_64 5 rfl ?_
      refine vv_aload_n hC dX4_clans_66 rfl 0 rfl ?_
      refine vv_getf hC hR hK fa4_132 0 lm_0 (fm_64 ad _ _ _) dX4_clans_67 ?_
      refine vv_iload hC dX4_clans_70 6 rfl ?_
      obtain ⟨hin, h⟩ := h
      refine vv_iald hC hR hK 39 lm_39 hin dX4_clans_72 ?_
      refine vv_iload hC dX4_clans_73 4 rfl ?_
      refine vv_icmp_ne (tgt := 82) hC dX4_clans_75 rfl (fun c15 => ?_) (fun c15 => ?_)
      · replace h := h.1 c15
        refine vv_iconst hC dX4_clans_82 ic_0 ?_
        refine vv_lv [0, 1, 2, 3, 4, 6] rfl ?_
        exact L83 _ h40 _ h55 _ _ _ _ _ _ _ _ h
      · replace h := h.2 c15
        refine vv_iconst hC dX4_clans_78 ic_1 ?_
        refine vv_goto (tgt := 83) hC dX4_clans_79 rfl ?_
        refine vv_lv [0, 1, 2, 3, 4, 6] rfl ?_
        exact L83 _ h40 _ h55 _ _ _ _ _ _ _ _ h
  have L40 : ∀ (v2 : Int32) (v4 : Int32) (v5 : Int32) (v6 : Int32) (μ : WS), w_X4_clans_40  v2 v4 v5 v6 μ Q → VV C 9 (HPW D ac ad knM Ex (vS C)) (vQ C (QcW D ac ad knM (qI Q)) 0 0 (inLay ad knM)) (μ, ()) 40 [(0, .ref (ad 0)), (2, .int v2), (4, .int v4), (5, .int v5), (6, .int v6)] [] := by
    intro  v2 v4 v5 v6 μ h
    refine h (fun v2 v4 v5 v6 μ => VV C 9 (HPW D ac ad knM Ex (vS C)) (vQ C (QcW D ac ad knM (qI Q)) 0 0 (inLay ad knM)) (μ, ()) 40 [(0, .ref (ad 0)), (2, .int v2), (4, .int v4), (5, .int v5), (6, .int v6)] []) ?_
    clear h; intro v2 v4 v5 v6 μ h
    have h40 : ∀ (v2 : Int32) (v4 : Int32) (v5 : Int32) (v6 : Int32) (μ : WS), (fun v2 v4 v5 v6 (μ : WS) => VV C 9 (HPW D ac ad knM Ex (vS C)) (vQ C (QcW D ac ad knM (qI Q)) 0 0 (inLay ad knM)) (μ, ()) 40 [(0, .ref (ad 0)), (2, .int v2), (4, .int v4), (5, .int v5), (6, .int v6)] []) v2 v4 v5 v6 μ → VV C 9 (HPW D ac ad knM Ex (vS C)) (vQ C (QcW D ac ad knM (qI Q)) 0 0 (inLay ad knM)) (μ, ()) 40 [(0, .ref (ad 0)), (2, .int v2), (4, .int v4), (5, .int v5), (6, .int v6)] [] := fun _ _ _ _ _ h => h
    unfold w_X4_clans_40b at h
    refine vv_iload hC dX4_clans_40 4 rfl ?_
    refine vv_aload_n hC dX4_clans_42 rfl 0 rfl ?_
    refine vv_getf hC hR hK fa4_427 0 lm_0 (fm_63 ad _ _ _) dX4_clans_43 ?_
    refine vv_icmp_ge (tgt := 124) hC dX4_clans_46 rfl (fun c11 => ?_) (fun c11 => ?_)
    · replace h := h.1 c11
      refine vv_iload_n hC dX4_clans_124 rfl 1 rfl ?_
      refine vv_if_ne (tgt := 133) hC dX4_clans_125 rfl (fun c12 => ?_) (fun c12 => ?_)
      · replace h := h.1 c12
        refine vv_iload hC dX4_clans_133 3 rfl ?_
        exact vv_iret hC hM dX4_clans_135 h
      · replace h := h.2 c12
        refine vv_iload hC dX4_clans_128 2 rfl ?_
        refine vv_goto (tgt := 135) hC dX4_clans_130 rfl ?_
        exact vv_iret hC hM dX4_clans_135 h
    · replace h := h.2 c11
      refine vv_iconst hC dX4_clans_49 ic_0 ?_
      refine vv_istore (lv' := [(7, .int 0), (0, .ref (ad 0)), (2, .int v2), (4, .int v4), (5, .int v5), (6, .int v6)]) hC dX4_clans_50 (by decide) rfl ?_
      refine vv_iconst hC dX4_clans_52 ic_0 ?_
      refine vv_istore (lv' := [(8, .int 0), (7, .int 0), (0, .ref (ad 0)), (2, .int v2), (4, .int v4), (5, .int v5), (6, .int v6)]) hC dX4_clans_53 (by decide) rfl ?_
      refine vv_lv [2, 3, 4, 5, 6, 1, 0] rfl ?_
      exact L55 _ h40 _ _ _ _ _ _ _ h
  unfold w_X4_clans at h
  refine vv_iload_n hC dX4_clans_0 rfl 1 rfl ?_
  refine vv_iconst hC dX4_clans_1 ic_0 ?_
  refine vv_bipush hC dX4_clans_2 bp_24 ?_
  refine vv_callSi hC hR hK hRo hRm [.int v1, .int 0, .int 24] [] (met_X4_isIn (vL C) D ac ad Ex hLay hEx v1 0 24 μ _ h) gw4_345 mf_X4_isIn rfl rfl rfl dX4_clans_4 (fun r2 μ1 h => ?_)
  refine vv_if_eq (tgt := 19) hC dX4_clans_7 rfl (fun c3 => ?_) (fun c3 => ?_)
  · replace h := h.1 c3
    refine vv_iconst hC dX4_clans_19 ic_m1 ?_
    exact vv_iret hC hM dX4_clans_20 h
  · replace h := h.2 c3
    refine vv_iload_n hC dX4_clans_10 rfl 2 rfl ?_
    refine vv_iconst hC dX4_clans_11 ic_0 ?_
    refine vv_iconst hC dX4_clans_12 ic_1 ?_
    refine vv_callSi hC hR hK hRo hRm [.int v2, .int 0, .int 1] [] (met_X4_isIn (vL C) D ac ad Ex hLay hEx v2 0 1 μ1 _ h) gw4_345 mf_X4_isIn rfl rfl rfl dX4_clans_13 (fun r5 μ4 h => ?_)
    refine vv_if_ne (tgt := 21) hC dX4_clans_16 rfl (fun c6 => ?_) (fun c6 => ?_)
    · replace h := h.1 c6
      refine vv_aload_n hC dX4_clans_21 rfl 0 rfl ?_
      refine vv_iload_n hC dX4_clans_22 rfl 3 rfl ?_
      refine vv_callVv hC hR hK hRo hRm [.int v3] [] (met_X4_laySamples (vL C) D ac ad Ex hLay hEx v3 μ4 _ h) gw4_433 mf_X4_laySamples rfl lm_0 rfl rfl rfl rfl dX4_clans_23 (fun μ7 h => ?_)
      refine vv_aload_n hC dX4_clans_26 rfl 0 rfl ?_
      refine vv_iload_n hC dX4_clans_27 rfl 1 rfl ?_
      refine vv_callVv hC hR hK hRo hRm [.int v1] [] (met_X4_layClans (vL C) D ac ad Ex hLay hEx v1 μ7 _ h) gw4_439 mf_X4_layClans rfl lm_0 rfl rfl rfl rfl dX4_clans_28 (fun μ9 h => ?_)
      refine vv_iconst hC dX4_clans_31 ic_0 ?_
      refine vv_istore (lv' := [(4, .int 0), (0, .ref (ad 0)), (1, .int v1), (2, .int v2), (3, .int v3)]) hC dX4_clans_32 (by decide) rfl ?_
      refine vv_iconst hC dX4_clans_34 ic_0 ?_
      refine vv_istore (lv' := [(5, .int 0), (4, .int 0), (0, .ref (ad 0)), (1, .int v1), (2, .int v2), (3, .int v3)]) hC dX4_clans_35 (by decide) rfl ?_
      refine vv_iconst hC dX4_clans_37 ic_0 ?_
      refine vv_istore (lv' := [(6, .int 0), (5, .int 0), (4, .int 0), (0, .ref (ad 0)), (1, .int v1), (2, .int v2), (3, .int v3)]) hC dX4_clans_38 (by decide) rfl ?_
      refine vv_lv [3, 5, 2, 1, 0] rfl ?_
      exact L40  _ _ _ _ _ h
    · replace h := h.2 c6
      refine vv_iconst hC dX4_clans_19 ic_m1 ?_
      exact vv_iret hC hM dX4_clans_20 h
def w_X4_origin_156 (P19 : Int32 → Int32 → Int32 → Int32 → Int32 → WS → Prop) (s0 : Int32) (s1 : Int32) (v1 : Int32) (v2 : Int32) (v3 : Int32) (v5 : Int32) (μ : WS) (Q : Int32 → WS → Prop) : Prop := (∀ x19 : Int32, x19 = s1 + s0 → P19 v1 v2 v3 x19 (v5 + 1) μ)
def w_X4_origin_136 (P19 : Int32 → Int32 → Int32 → Int32 → Int32 → WS → Prop) (v1 : Int32) (v2 : Int32) (v3 : Int32) (v4 : Int32) (v5 : Int32) (v6 : Int32) (v7 : Int32) (μ : WS) (Q : Int32 → WS → Prop) : Prop := ((2 * v6 ≤ v7) → w_X4_origin_156 P19 (2 * v6) v4 v1 v2 v3 v5 μ Q) ∧ ((¬ 2 * v6 ≤ v7) → w_X4_origin_156 P19 v7 v4 v1 v2 v3 v5 μ Q)
def w_X4_origin_114 (P19 : Int32 → Int32 → Int32 → Int32 → Int32 → WS → Prop) (P37 : Int32 → Int32 → Int32 → Int32 → Int32 → Int32 → Int32 → Int32 → WS → Prop) (v1 : Int32) (v2 : Int32) (v3 : Int32) (v4 : Int32) (v5 : Int32) (v6 : Int32) (v7 : Int32) (v8 : Int32) (μ : WS) (Q : Int32 → WS → Prop) : Prop := P37 v1 v2 v3 v4 v5 v6 v7 (v8 + 1) μ
def w_X4_origin_92 (P19 : Int32 → Int32 → Int32 → Int32 → Int32 → WS → Prop) (P37 : Int32 → Int32 → Int32 → Int32 → Int32 → Int32 → Int32 → Int32 → WS → Prop) (s0 : Int32) (v1 : Int32) (v2 : Int32) (v3 : Int32) (v4 : Int32) (v5 : Int32) (v6 : Int32) (v7 : Int32) (v8 : Int32) (μ : WS) (Q : Int32 → WS → Prop) : Prop := ((¬ (s0 >>> (v5 &&& 31)) &&& 1 = 1) → w_X4_origin_114 P19 P37 v1 v2 v3 v4 v5 v6 (v7 + 1) v8 μ Q) ∧ (((s0 >>> (v5 &&& 31)) &&& 1 = 1) → w_X4_origin_114 P19 P37 v1 v2 v3 v4 v5 (v6 + 1) v7 v8 μ Q)
def w_X4_origin_37b (P19 : Int32 → Int32 → Int32 → Int32 → Int32 → WS → Prop) (P37 : Int32 → Int32 → Int32 → Int32 → Int32 → Int32 → Int32 → Int32 → WS → Prop) (v1 : Int32) (v2 : Int32) (v3 : Int32) (v4 : Int32) (v5 : Int32) (v6 : Int32) (v7 : Int32) (v8 : Int32) (μ : WS) (Q : Int32 → WS → Prop) : Prop := ((μ.1 0 58 ≤ v8) → ((2 * v6 ≤ v7) → w_X4_origin_136 P19 v1 v2 v3 v4 v5 v6 v7 μ Q) ∧ ((¬ 2 * v6 ≤ v7) → (∀ x10 : Int32, x10 = v3 ||| (1 <<< (v5 &&& 31)) → w_X4_origin_136 P19 v1 v2 x10 v4 v5 v6 v7 μ Q))) ∧ ((¬ μ.1 0 58 ≤ v8) → (w_X4_counts v8 0 v2 μ (fun r12 μ11 => ((¬ r12 = 0) → (vp_in v8 40 ∧ ((¬ μ11.1 32 v8.toNatClampNeg = 1) → (vp_in v8 40 ∧ w_X4_origin_92 P19 P37 (μ11.1 31 v8.toNatClampNeg) v1 v2 v3 v4 v5 v6 v7 v8 μ11 Q)) ∧ ((μ11.1 32 v8.toNatClampNeg = 1) → (vp_in v8 40 ∧ (w_X4_turnedRow (μ11.1 31 v8.toNatClampNeg) μ11 (fun r16 μ15 => w_X4_origin_92 P19 P37 r16 v1 v2 v3 v4 v5 v6 v7 v8 μ15 Q)))))) ∧ ((r12 = 0) → w_X4_origin_114 P19 P37 v1 v2 v3 v4 v5 v6 v7 v8 μ11 Q))))
def w_X4_origin_37 (P19 : Int32 → Int32 → Int32 → Int32 → Int32 → WS → Prop) (v1 : Int32) (v2 : Int32) (v3 : Int32) (v4 : Int32) (v5 : Int32) (v6 : Int32) (v7 : Int32) (v8 : Int32) (μ : WS) (Q : Int32 → WS → Prop) : Prop := ∀ P37 : Int32 → Int32 → Int32 → Int32 → Int32 → Int32 → Int32 → Int32 → WS → Prop, (∀ (v1 : Int32) (v2 : Int32) (v3 : Int32) (v4 : Int32) (v5 : Int32) (v6 : Int32) (v7 : Int32) (v8 : Int32) (μ : WS), w_X4_origin_37b P19 P37 v1 v2 v3 v4 v5 v6 v7 v8 μ Q → P37 v1 v2 v3 v4 v5 v6 v7 v8 μ) → P37 v1 v2 v3 v4 v5 v6 v7 v8 μ
def w_X4_origin_19b (P19 : Int32 → Int32 → Int32 → Int32 → Int32 → WS → Prop) (v1 : Int32) (v2 : Int32) (v3 : Int32) (v4 : Int32) (v5 : Int32) (μ : WS) (Q : Int32 → WS → Prop) : Prop := (w_X4_width μ (fun r5 μ4 => ((r5 ≤ v5) → ((¬ v1 = 0) → Q v4 μ4) ∧ ((v1 = 0) → Q v3 μ4)) ∧ ((¬ r5 ≤ v5) → w_X4_origin_37 P19 v1 v2 v3 v4 v5 0 0 0 μ4 Q)))
def w_X4_origin_19 (v1 : Int32) (v2 : Int32) (v3 : Int32) (v4 : Int32) (v5 : Int32) (μ : WS) (Q : Int32 → WS → Prop) : Prop := ∀ P19 : Int32 → Int32 → Int32 → Int32 → Int32 → WS → Prop, (∀ (v1 : Int32) (v2 : Int32) (v3 : Int32) (v4 : Int32) (v5 : Int32) (μ : WS), w_X4_origin_19b  P19 v1 v2 v3 v4 v5 μ Q → P19 v1 v2 v3 v4 v5 μ) → P19 v1 v2 v3 v4 v5 μ
def w_X4_origin (v1 : Int32) (v2 : Int32) (μ : WS) (Q : Int32 → WS → Prop) : Prop := (w_X4_isIn v1 0 1 μ (fun r2 μ1 => ((¬ r2 = 0) → w_X4_origin_19 v1 v2 0 0 0 μ1 Q) ∧ ((r2 = 0) → Q (-1) μ1)))
abbrev rm_X4_origin : Room := { frames := 2, cells := 0, slots := 0, locals := 43 }
theorem mf_X4_origin : MFact yX4_origin 2 rm_X4_origin := ⟨by decide +kernel, rfl, rfl⟩
set_option maxHeartbeats 4000000 in
theorem met_X4_origin (l : Launch) (D : va_G) (ac : Nat → ClassId) (ad : Nat → Nat) (Ex : Heap → Prop) (hLay : LayOk ad knM) (hEx : ExOk ad knM Ex) (v1 : Int32) (v2 : Int32) (μ : WS) (Q : Int32 → WS → Prop) (h : w_X4_origin v1 v2 μ Q) : CMet l yX4_origin cX4_origin 10 (some .int) rm_X4_origin D ac ad knM Ex [.ref (ad 0), .int v1, .int v2] μ (qI Q) := by
  refine vv_met (lv := [(0, .ref (ad 0)), (1, .int v1), (2, .int v2)]) (by decide) hLay hEx (Nat.le_of_ble_eq_true rfl) rfl ⟨rfl, rfl⟩ (fun C hC hK hRm hLl hR hM => ?_)
  subst hLl
  have hRo : RoomOk (HPW D ac ad knM Ex (vS C)) (vR C) := HPW.room
  have L156 : ∀ (P19 : Int32 → Int32 → Int32 → Int32 → Int32 → WS → Prop) (h19 : ∀ (v1 : Int32) (v2 : Int32) (v3 : Int32) (v4 : Int32) (v5 : Int32) (μ : WS), P19 v1 v2 v3 v4 v5 μ → VV C 10 (HPW D ac ad knM Ex (vS C)) (vQ C (QcW D ac ad knM (qI Q)) 0 0 (inLay ad knM)) (μ, ()) 19 [(0, .ref (ad 0)), (1, .int v1), (2, .int v2), (3, .int v3), (4, .int v4), (5, .int v5)] []) (s0 : Int32) (s1 : Int32) (v1 : Int32) (v2 : Int32) (v3 : Int32) (v5 : Int32) (μ : WS), w_X4_origin_156 P19 s0 s1 v1 v2 v3 v5 μ Q → VV C 10 (HPW D ac ad knM Ex (vS C)) (vQ C (QcW D ac ad knM (qI Q)) 0 0 (inLay ad knM)) (μ, ()) 156 [(0, .ref (ad 0)), (1, .int v1), (2, .int v2), (3, .int v3), (5, .int v5)] [.int s0, .int s1] := by
    intro P19 h19 s0 s1 v1 v2 v3 v5 μ h
    unfold w_X4_origin_156 at h
    refine vv_iadd hC dX4_origin_156 ?_
    refine vv_topi (fun x19 ex19 => ?_)
    replace h := h x19 ex19
    refine vv_istore (lv' := [(4, .int x19), (0, .ref (ad 0)), (1, .int v1), (2, .int v2), (3, .int v3), (5, .int v5)]) hC dX4_origin_157 (by decide) rfl ?_
    refine vv_iinc (pl := 5) (v := v5 + 1) (lv' := [(5, .int (v5 + 1)), (4, .int x19), (0, .ref (ad 0)), (1, .int v1), (2, .int v2), (3, .int v3)]) hC dX4_origin_159 rfl rfl (by decide) rfl ?_
    refine vv_goto (tgt := 19) hC dX4_origin_162 rfl ?_
    refine vv_lv [2, 3, 4, 5, 1, 0] rfl ?_
    exact h19 _ _ _ _ _ _ h
  have L136 : ∀ (P19 : Int32 → Int32 → Int32 → Int32 → Int32 → WS → Prop) (h19 : ∀ (v1 : Int32) (v2 : Int32) (v3 : Int32) (v4 : Int32) (v5 : Int32) (μ : WS), P19 v1 v2 v3 v4 v5 μ → VV C 10 (HPW D ac ad knM Ex (vS C)) (vQ C (QcW D ac ad knM (qI Q)) 0 0 (inLay ad knM)) (μ, ()) 19 [(0, .ref (ad 0)), (1, .int v1), (2, .int v2), (3, .int v3), (4, .int v4), (5, .int v5)] []) (v1 : Int32) (v2 : Int32) (v3 : Int32) (v4 : Int32) (v5 : Int32) (v6 : Int32) (v7 : Int32) (μ : WS), w_X4_origin_136 P19 v1 v2 v3 v4 v5 v6 v7 μ Q → VV C 10 (HPW D ac ad knM Ex (vS C)) (vQ C (QcW D ac ad knM (qI Q)) 0 0 (inLay ad knM)) (μ, ()) 136 [(0, .ref (ad 0)), (1, .int v1), (2, .int v2), (3, .int v3), (4, .int v4), (5, .int v5), (6, .int v6), (7, .int v7)] [] := by
    intro P19 h19 v1 v2 v3 v4 v5 v6 v7 μ h
    unfold w_X4_origin_136 at h
    refine vv_iload hC dX4_origin_136 4 rfl ?_
    refine vv_iload hC dX4_origin_138 7 rfl ?_
    refine vv_iconst hC dX4_origin_140 ic_2 ?_
    refine vv_iload hC dX4_origin_141 6 rfl ?_
    refine vv_imul hC dX4_origin_143 ?_
    refine vv_icmp_ge (tgt := 152) hC dX4_origin_144 rfl (fun c18 => ?_) (fun c18 => ?_)
    · replace h := h.1 c18
      refine vv_iconst hC dX4_origin_152 ic_2 ?_
      refine vv_iload hC dX4_origin_153 6 rfl ?_
      refine vv_imul hC dX4_origin_155 ?_
      refine vv_lv [0, 1, 2, 3, 5] rfl ?_
      exact L156 _ h19 _ _ _ _ _ _ _ h
    · replace h := h.2 c18
      refine vv_iload hC dX4_origin_147 7 rfl ?_
      refine vv_goto (tgt := 156) hC dX4_origin_149 rfl ?_
      refine vv_lv [0, 1, 2, 3, 5] rfl ?_
      exact L156 _ h19 _ _ _ _ _ _ _ h
  have L114 : ∀ (P19 : Int32 → Int32 → Int32 → Int32 → Int32 → WS → Prop) (h19 : ∀ (v1 : Int32) (v2 : Int32) (v3 : Int32) (v4 : Int32) (v5 : Int32) (μ : WS), P19 v1 v2 v3 v4 v5 μ → VV C 10 (HPW D ac ad knM Ex (vS C)) (vQ C (QcW D ac ad knM (qI Q)) 0 0 (inLay ad knM)) (μ, ()) 19 [(0, .ref (ad 0)), (1, .int v1), (2, .int v2), (3, .int v3), (4, .int v4), (5, .int v5)] []) (P37 : Int32 → Int32 → Int32 → Int32 → Int32 → Int32 → Int32 → Int32 → WS → Prop) (h37 : ∀ (v1 : Int32) (v2 : Int32) (v3 : Int32) (v4 : Int32) (v5 : Int32) (v6 : Int32) (v7 : Int32) (v8 : Int32) (μ : WS), P37 v1 v2 v3 v4 v5 v6 v7 v8 μ → VV C 10 (HPW D ac ad knM Ex (vS C)) (vQ C (QcW D ac ad knM (qI Q)) 0 0 (inLay ad knM)) (μ, ()) 37 [(0, .ref (ad 0)), (1, .int v1), (2, .int v2), (3, .int v3), (4, .int v4), (5, .int v5), (6, .int v6), (7, .int v7), (8, .int v8)] []) (v1 : Int32) (v2 : Int32) (v3 : Int32) (v4 : Int32) (v5 : Int32) (v6 : Int32) (v7 : Int32) (v8 : Int32) (μ : WS), w_X4_origin_114 P19 P37 v1 v2 v3 v4 v5 v6 v7 v8 μ Q → VV C 10 (HPW D ac ad knM Ex (vS C)) (vQ C (QcW D ac ad knM (qI Q)) 0 0 (inLay ad knM)) (μ, ()) 114 [(0, .ref (ad 0)), (1, .int v1), (2, .int v2), (3, .int v3), (4, .int v4), (5, .int v5), (6, .int v6), (7, .int v7), (8, .int v8)] [] := by
    intro P19 h19 P37 h37 v1 v2 v3 v4 v5 v6 v7 v8 μ h
    unfold w_X4_origin_114 at h
    refine vv_iinc (pl := 8) (v := v8 + 1) (lv' := [(8, .int (v8 + 1)), (0, .ref (ad 0)), (1, .int v1), (2, .int v2), (3, .int v3), (4, .int v4), (5, .int v5), (6, .int v6), (7, .int v7)]) hC dX4_origin_114 rfl rfl (by decide) rfl ?_
    refine vv_goto (tgt := 37) hC dX4_origin_117 rfl ?_
    refine vv_lv [1, 2, 3, 4, 5, 6, 7, 8, 0] rfl ?_
    exact h37 _ _ _ _ _ _ _ _ _ h
  have L92 : ∀ (P19 : Int32 → Int32 → Int32 → Int32 → Int32 → WS → Prop) (h19 : ∀ (v1 : Int32) (v2 : Int32) (v3 : Int32) (v4 : Int32) (v5 : Int32) (μ : WS), P19 v1 v2 v3 v4 v5 μ → VV C 10 (HPW D ac ad knM Ex (vS C)) (vQ C (QcW D ac ad knM (qI Q)) 0 0 (inLay ad knM)) (μ, ()) 19 [(0, .ref (ad 0)), (1, .int v1), (2, .int v2), (3, .int v3), (4, .int v4), (5, .int v5)] []) (P37 : Int32 → Int32 → Int32 → Int32 → Int32 → Int32 → Int32 → Int32 → WS → Prop) (h37 : ∀ (v1 : Int32) (v2 : Int32) (v3 : Int32) (v4 : Int32) (v5 : Int32) (v6 : Int32) (v7 : Int32) (v8 : Int32) (μ : WS), P37 v1 v2 v3 v4 v5 v6 v7 v8 μ → VV C 10 (HPW D ac ad knM Ex (vS C)) (vQ C (QcW D ac ad knM (qI Q)) 0 0 (inLay ad knM)) (μ, ()) 37 [(0, .ref (ad 0)), (1, .int v1), (2, .int v2), (3, .int v3), (4, .int v4), (5, .int v5), (6, .int v6), (7, .int v7), (8, .int v8)] []) (s0 : Int32) (v1 : Int32) (v2 : Int32) (v3 : Int32) (v4 : Int32) (v5 : Int32) (v6 : Int32) (v7 : Int32) (v8 : Int32) (μ : WS), w_X4_origin_92 P19 P37 s0 v1 v2 v3 v4 v5 v6 v7 v8 μ Q → VV C 10 (HPW D ac ad knM Ex (vS C)) (vQ C (QcW D ac ad knM (qI Q)) 0 0 (inLay ad knM)) (μ, ()) 92 [(0, .ref (ad 0)), (1, .int v1), (2, .int v2), (3, .int v3), (4, .int v4), (5, .int v5), (6, .int v6), (7, .int v7), (8, .int v8)] [.int s0] := by
    intro P19 h19 P37 h37 s0 v1 v2 v3 v4 v5 v6 v7 v8 μ h
    unfold w_X4_origin_92 at h
    refine vv_istore (lv' := [(9, .int s0), (0, .ref (ad 0)), (1, .int v1), (2, .int v2), (3, .int v3), (4, .int v4), (5, .int v5), (6, .int v6), (7, .int v7), (8, .int v8)]) hC dX4_origin_92 (by decide) rfl ?_
    refine vv_iload hC dX4_origin_94 0 rfl ?_
    refine vv_iload hC dX4_origin_96 6 rfl ?_
    refine vv_ishr hC dX4_origin_98 ?_
    refine vv_iconst hC dX4_origin_99 ic_1 ?_
    refine vv_iand hC dX4_origin_100 ?_
    refine vv_iconst hC dX4_origin_101 ic_1 ?_
    refine vv_icmp_ne (tgt := 111) hC dX4_origin_102 rfl (fun c17 => ?_) (fun c17 => ?_)
    · replace h := h.1 c17
      refine vv_iinc (pl := 8) (v := v7 + 1) (lv' := [(7, .int (v7 + 1)), (9, .int s0), (0, .ref (ad 0)), (1, .int v1), (2, .int v2), (3, .int v3), (4, .int v4), (5, .int v5), (6, .int v6), (8, .int v8)]) hC dX4_origin_111 rfl rfl (by decide) rfl ?_
      refine vv_lv [2, 3, 4, 5, 6, 7, 8, 0, 9] rfl ?_
      exact L114 _ h19 _ h37 _ _ _ _ _ _ _ _ _ h
    · replace h := h.2 c17
      refine vv_iinc (pl := 7) (v := v6 + 1) (lv' := [(6, .int (v6 + 1)), (9, .int s0), (0, .ref (ad 0)), (1, .int v1), (2, .int v2), (3, .int v3), (4, .int v4), (5, .int v5), (7, .int v7), (8, .int v8)]) hC dX4_origin_105 rfl rfl (by decide) rfl ?_
      refine vv_goto (tgt := 114) hC dX4_origin_108 rfl ?_
      refine vv_lv [2, 3, 4, 5, 6, 7, 0, 8, 9] rfl ?_
      exact L114 _ h19 _ h37 _ _ _ _ _ _ _ _ _ h
  have L37 : ∀ (P19 : Int32 → Int32 → Int32 → Int32 → Int32 → WS → Prop) (h19 : ∀ (v1 : Int32) (v2 : Int32) (v3 : Int32) (v4 : Int32) (v5 : Int32) (μ : WS), P19 v1 v2 v3 v4 v5 μ → VV C 10 (HPW D ac ad knM Ex (vS C)) (vQ C (QcW D ac ad knM (qI Q)) 0 0 (inLay ad knM)) (μ, ()) 19 [(0, .ref (ad 0)), (1, .int v1), (2, .int v2), (3, .int v3), (4, .int v4), (5, .int v5)] []) (v1 : Int32) (v2 : Int32) (v3 : Int32) (v4 : Int32) (v5 : Int32) (v6 : Int32) (v7 : Int32) (v8 : Int32) (μ : WS), w_X4_origin_37 P19 v1 v2 v3 v4 v5 v6 v7 v8 μ Q → VV C 10 (HPW D ac ad knM Ex (vS C)) (vQ C (QcW D ac ad knM (qI Q)) 0 0 (inLay ad knM)) (μ, ()) 37 [(0, .ref (ad 0)), (1, .int v1), (2, .int v2), (3, .int v3), (4, .int v4), (5, .int v5), (6, .int v6), (7, .int v7), (8, .int v8)] [] := by
    intro P19 h19 v1 v2 v3 v4 v5 v6 v7 v8 μ h
    refine h (fun v1 v2 v3 v4 v5 v6 v7 v8 μ => VV C 10 (HPW D ac ad knM Ex (vS C)) (vQ C (QcW D ac ad knM (qI Q)) 0 0 (inLay ad knM)) (μ, ()) 37 [(0, .ref (ad 0)), (1, .int v1), (2, .int v2), (3, .int v3), (4, .int v4), (5, .int v5), (6, .int v6), (7, .int v7), (8, .int v8)] []) ?_
    clear h; intro v1 v2 v3 v4 v5 v6 v7 v8 μ h
    have h37 : ∀ (v1 : Int32) (v2 : Int32) (v3 : Int32) (v4 : Int32) (v5 : Int32) (v6 : Int32) (v7 : Int32) (v8 : Int32) (μ : WS), (fun v1 v2 v3 v4 v5 v6 v7 v8 (μ : WS) => VV C 10 (HPW D ac ad knM Ex (vS C)) (vQ C (QcW D ac ad knM (qI Q)) 0 0 (inLay ad knM)) (μ, ()) 37 [(0, .ref (ad 0)), (1, .int v1), (2, .int v2), (3, .int v3), (4, .int v4), (5, .int v5), (6, .int v6), (7, .int v7), (8, .int v8)] []) v1 v2 v3 v4 v5 v6 v7 v8 μ → VV C 10 (HPW D ac ad knM Ex (vS C)) (vQ C (QcW D ac ad knM (qI Q)) 0 0 (inLay ad knM)) (μ, ()) 37 [(0, .ref (ad 0)), (1, .int v1), (2, .int v2), (3, .int v3), (4, .int v4), (5, .int v5), (6, .int v6), (7, .int v7), (8, .int v8)] [] := fun _ _ _ _ _ _ _ _ _ h => h
    unfold w_X4_origin_37b at h
    refine vv_iload hC dX4_origin_37 8 rfl ?_
    refine vv_aload_n hC dX4_origin_39 rfl 0 rfl ?_
    refine vv_getf hC hR hK fa4_377 0 lm_0 (fm_58 ad _ _ _) dX4_origin_40 ?_
    refine vv_icmp_ge (tgt := 120) hC dX4_origin_43 rfl (fun c8 => ?_) (fun c8 => ?_)
    · replace h := h.1 c8
      refine vv_iload hC dX4_origin_120 7 rfl ?_
      refine vv_iconst hC dX4_origin_122 ic_2 ?_
      refine vv_iload hC dX4_origin_123 6 rfl ?_
      refine vv_imul hC dX4_origin_125 ?_
      refine vv_icmp_ge (tgt := 136) hC dX4_origin_126 rfl (fun c9 => ?_) (fun c9 => ?_)
      · replace h := h.1 c9
        refine vv_lv [0, 1, 2, 3, 4, 5, 6, 7] rfl ?_
        exact L136 _ h19 _ _ _ _ _ _ _ _ h
      · replace h := h.2 c9
        refine vv_iload_n hC dX4_origin_129 rfl 3 rfl ?_
        refine vv_iconst hC dX4_origin_130 ic_1 ?_
        refine vv_iload hC dX4_origin_131 5 rfl ?_
        refine vv_ishl hC dX4_origin_133 ?_
        refine vv_ior hC dX4_origin_134 ?_
        refine vv_topi (fun x10 ex10 => ?_)
        replace h := h x10 ex10
        refine vv_istore_n (lv' := [(3, .int x10), (0, .ref (ad 0)), (1, .int v1), (2, .int v2), (4, .int v4), (5, .int v5), (6, .int v6), (7, .int v7), (8, .int v8)]) hC dX4_origin_135 rfl (by decide) rfl ?_
        refine vv_lv [1, 2, 3, 0, 4, 5, 6, 7] rfl ?_
        exact L136 _ h19 _ _ _ _ _ _ _ _ h
    · replace h := h.2 c8
      refine vv_aload_n hC dX4_origin_46 rfl 0 rfl ?_
      refine vv_iload hC dX4_origin_47 8 rfl ?_
      refine vv_iconst hC dX4_origin_49 ic_0 ?_
      refine vv_iload_n hC dX4_origin_50 rfl 2 rfl ?_
      refine vv_callVi hC hR hK hRo hRm [.int v8, .int 0, .int v2] [] (met_X4_counts (vL C) D ac ad Ex hLay hEx v8 0 v2 μ _ h) gw4_430 mf_X4_counts rfl lm_0 rfl rfl rfl rfl dX4_origin_51 (fun r12 μ11 h => ?_)
      refine vv_if_ne (tgt := 60) hC dX4_origin_54 rfl (fun c13 => ?_) (fun c13 => ?_)
      · replace h := h.1 c13
        refine vv_aload_n hC dX4_origin_60 rfl 0 rfl ?_
        refine vv_getf hC hR hK fa4_111 0 lm_0 (fm_54 ad _ _ _) dX4_origin_61 ?_
        refine vv_iload hC dX4_origin_64 8 rfl ?_
        obtain ⟨hin, h⟩ := h
        refine vv_iald hC hR hK 32 lm_32 hin dX4_origin_66 ?_
        refine vv_iconst hC dX4_origin_67 ic_1 ?_
        refine vv_icmp_ne (tgt := 85) hC dX4_origin_68 rfl (fun c14 => ?_) (fun c14 => ?_)
        · replace h := h.1 c14
          refine vv_aload_n hC dX4_origin_85 rfl 0 rfl ?_
          refine vv_getf hC hR hK fa4_108 0 lm_0 (fm_53 ad _ _ _) dX4_origin_86 ?_
          refine vv_iload hC dX4_origin_89 8 rfl ?_
          obtain ⟨hin, h⟩ := h
          refine vv_iald hC hR hK 31 lm_31 hin dX4_origin_91 ?_
          exact L92 _ h19 _ h37 _ _ _ _ _ _ _ _ _ _ h
        · replace h := h.2 c14
          refine vv_aload_n hC dX4_origin_71 rfl 0 rfl ?_
          refine vv_aload_n hC dX4_origin_72 rfl 0 rfl ?_
          refine vv_getf hC hR hK fa4_108 0 lm_0 (fm_53 ad _ _ _) dX4_origin_73 ?_
          refine vv_iload hC dX4_origin_76 8 rfl ?_
          obtain ⟨hin, h⟩ := h
          refine vv_iald hC hR hK 31 lm_31 hin dX4_origin_78 ?_
          refine vv_callVi hC hR hK hRo hRm [.int (μ11.1 31 v8.toNatClampNeg)] [] (met_X4_turnedRow (vL C) D ac ad Ex hLay hEx (μ11.1 31 v8.toNatClampNeg) μ11 _ h) gw4_349 mf_X4_turnedRow rfl lm_0 rfl rfl rfl rfl dX4_origin_79 (fun r16 μ15 h => ?_)
          refine vv_goto (tgt := 92) hC dX4_origin_82 rfl ?_
          exact L92 _ h19 _ h37 _ _ _ _ _ _ _ _ _ _ h
      · replace h := h.2 c13
        refine vv_goto (tgt := 114) hC dX4_origin_57 rfl ?_
        exact L114 _ h19 _ h37 _ _ _ _ _ _ _ _ _ h
  have L19 : ∀ (v1 : Int32) (v2 : Int32) (v3 : Int32) (v4 : Int32) (v5 : Int32) (μ : WS), w_X4_origin_19  v1 v2 v3 v4 v5 μ Q → VV C 10 (HPW D ac ad knM Ex (vS C)) (vQ C (QcW D ac ad knM (qI Q)) 0 0 (inLay ad knM)) (μ, ()) 19 [(0, .ref (ad 0)), (1, .int v1), (2, .int v2), (3, .int v3), (4, .int v4), (5, .int v5)] [] := by
    intro  v1 v2 v3 v4 v5 μ h
    refine h (fun v1 v2 v3 v4 v5 μ => VV C 10 (HPW D ac ad knM Ex (vS C)) (vQ C (QcW D ac ad knM (qI Q)) 0 0 (inLay ad knM)) (μ, ()) 19 [(0, .ref (ad 0)), (1, .int v1), (2, .int v2), (3, .int v3), (4, .int v4), (5, .int v5)] []) ?_
    clear h; intro v1 v2 v3 v4 v5 μ h
    have h19 : ∀ (v1 : Int32) (v2 : Int32) (v3 : Int32) (v4 : Int32) (v5 : Int32) (μ : WS), (fun v1 v2 v3 v4 v5 (μ : WS) => VV C 10 (HPW D ac ad knM Ex (vS C)) (vQ C (QcW D ac ad knM (qI Q)) 0 0 (inLay ad knM)) (μ, ()) 19 [(0, .ref (ad 0)), (1, .int v1), (2, .int v2), (3, .int v3), (4, .int v4), (5, .int v5)] []) v1 v2 v3 v4 v5 μ → VV C 10 (HPW D ac ad knM Ex (vS C)) (vQ C (QcW D ac ad knM (qI Q)) 0 0 (inLay ad knM)) (μ, ()) 19 [(0, .ref (ad 0)), (1, .int v1), (2, .int v2), (3, .int v3), (4, .int v4), (5, .int v5)] [] := fun _ _ _ _ _ _ h => h
    unfold w_X4_origin_19b at h
    refine vv_iload hC dX4_origin_19 5 rfl ?_
    refine vv_aload_n hC dX4_origin_21 rfl 0 rfl ?_
    refine vv_callVi hC hR hK hRo hRm [] [.int v5] (met_X4_width (vL C) D ac ad Ex hLay hEx  μ _ h) gw4_342 mf_X4_width rfl lm_0 rfl rfl rfl rfl dX4_origin_22 (fun r5 μ4 h => ?_)
    refine vv_icmp_ge (tgt := 165) hC dX4_origin_25 rfl (fun c6 => ?_) (fun c6 => ?_)
    · replace h := h.1 c6
      refine vv_iload_n hC dX4_origin_165 rfl 1 rfl ?_
      refine vv_if_ne (tgt := 173) hC dX4_origin_166 rfl (fun c7 => ?_) (fun c7 => ?_)
      · replace h := h.1 c7
        refine vv_iload hC dX4_origin_173 4 rfl ?_
        exact vv_iret hC hM dX4_origin_175 h
      · replace h := h.2 c7
        refine vv_iload_n hC dX4_origin_169 rfl 3 rfl ?_
        refine vv_goto (tgt := 175) hC dX4_origin_170 rfl ?_
        exact vv_iret hC hM dX4_origin_175 h
    · replace h := h.2 c6
      refine vv_iconst hC dX4_origin_28 ic_0 ?_
      refine vv_istore (lv' := [(6, .int 0), (0, .ref (ad 0)), (1, .int v1), (2, .int v2), (3, .int v3), (4, .int v4), (5, .int v5)]) hC dX4_origin_29 (by decide) rfl ?_
      refine vv_iconst hC dX4_origin_31 ic_0 ?_
      refine vv_istore (lv' := [(7, .int 0), (6, .int 0), (0, .ref (ad 0)), (1, .int v1), (2, .int v2), (3, .int v3), (4, .int v4), (5, .int v5)]) hC dX4_origin_32 (by decide) rfl ?_
      refine vv_iconst hC dX4_origin_34 ic_0 ?_
      refine vv_istore (lv' := [(8, .int 0), (7, .int 0), (6, .int 0), (0, .ref (ad 0)), (1, .int v1), (2, .int v2), (3, .int v3), (4, .int v4), (5, .int v5)]) hC dX4_origin_35 (by decide) rfl ?_
      refine vv_lv [3, 4, 5, 6, 7, 8, 2, 1, 0] rfl ?_
      exact L37 _ h19 _ _ _ _ _ _ _ _ _ h
  unfold w_X4_origin at h
  refine vv_iload_n hC dX4_origin_0 rfl 1 rfl ?_
  refine vv_iconst hC dX4_origin_1 ic_0 ?_
  refine vv_iconst hC dX4_origin_2 ic_1 ?_
  refine vv_callSi hC hR hK hRo hRm [.int v1, .int 0, .int 1] [] (met_X4_isIn (vL C) D ac ad Ex hLay hEx v1 0 1 μ _ h) gw4_345 mf_X4_isIn rfl rfl rfl dX4_origin_3 (fun r2 μ1 h => ?_)
  refine vv_if_ne (tgt := 11) hC dX4_origin_6 rfl (fun c3 => ?_) (fun c3 => ?_)
  · replace h := h.1 c3
    refine vv_iconst hC dX4_origin_11 ic_0 ?_
    refine vv_istore_n (lv' := [(3, .int 0), (0, .ref (ad 0)), (1, .int v1), (2, .int v2)]) hC dX4_origin_12 rfl (by decide) rfl ?_
    refine vv_iconst hC dX4_origin_13 ic_0 ?_
    refine vv_istore (lv' := [(4, .int 0), (3, .int 0), (0, .ref (ad 0)), (1, .int v1), (2, .int v2)]) hC dX4_origin_14 (by decide) rfl ?_
    refine vv_iconst hC dX4_origin_16 ic_0 ?_
    refine vv_istore (lv' := [(5, .int 0), (4, .int 0), (3, .int 0), (0, .ref (ad 0)), (1, .int v1), (2, .int v2)]) hC dX4_origin_17 (by decide) rfl ?_
    refine vv_lv [3, 4, 5, 2, 1, 0] rfl ?_
    exact L19  _ _ _ _ _ _ h
  · replace h := h.2 c3
    refine vv_iconst hC dX4_origin_9 ic_m1 ?_
    exact vv_iret hC hM dX4_origin_10 h
def w_X4_isFalse (v1 : Int32) (μ : WS) (Q : Int32 → WS → Prop) : Prop := (vp_in v1 40 ∧ (w_X4_isSeal (μ.1 32 v1.toNatClampNeg) μ (fun r2 μ1 => ((¬ r2 = 0) → (vp_in v1 40 ∧ (vp_in v1 40 ∧ (w_X4_rowOf (μ1.1 32 v1.toNatClampNeg) μ1 (fun r5 μ4 => (w_X4_turnedRow r5 μ4 (fun r7 μ6 => ((¬ (μ1.1 31 v1.toNatClampNeg) &&& (r7 ^^^ (-1)) = 0) → Q 1 μ6) ∧ (((μ1.1 31 v1.toNatClampNeg) &&& (r7 ^^^ (-1)) = 0) → (vp_in v1 40 ∧ (vp_in v1 40 ∧ (vp_in ((4 * (μ6.1 32 v1.toNatClampNeg)) + 3) 221 ∧ ((μ6.1 21 ((4 * (μ6.1 32 v1.toNatClampNeg)) + 3).toNatClampNeg ≤ μ6.1 33 v1.toNatClampNeg) → Q 0 μ6) ∧ ((¬ μ6.1 21 ((4 * (μ6.1 32 v1.toNatClampNeg)) + 3).toNatClampNeg ≤ μ6.1 33 v1.toNatClampNeg) → Q 1 μ6)))))))))))) ∧ ((r2 = 0) → Q 1 μ1))))
abbrev rm_X4_isFalse : Room := { frames := 2, cells := 0, slots := 0, locals := 43 }
theorem mf_X4_isFalse : MFact yX4_isFalse 1 rm_X4_isFalse := ⟨by decide +kernel, rfl, rfl⟩
set_option maxHeartbeats 4000000 in
theorem met_X4_isFalse (l : Launch) (D : va_G) (ac : Nat → ClassId) (ad : Nat → Nat) (Ex : Heap → Prop) (hLay : LayOk ad knM) (hEx : ExOk ad knM Ex) (v1 : Int32) (μ : WS) (Q : Int32 → WS → Prop) (h : w_X4_isFalse v1 μ Q) : CMet l yX4_isFalse cX4_isFalse 2 (some .boolean) rm_X4_isFalse D ac ad knM Ex [.ref (ad 0), .int v1] μ (qI Q) := by
  refine vv_met (lv := [(0, .ref (ad 0)), (1, .int v1)]) (by decide) hLay hEx (Nat.le_of_ble_eq_true rfl) rfl ⟨rfl, rfl⟩ (fun C hC hK hRm hLl hR hM => ?_)
  subst hLl
  have hRo : RoomOk (HPW D ac ad knM Ex (vS C)) (vR C) := HPW.room
  unfold w_X4_isFalse at h
  refine vv_aload_n hC dX4_isFalse_0 rfl 0 rfl ?_
  refine vv_aload_n hC dX4_isFalse_1 rfl 0 rfl ?_
  refine vv_getf hC hR hK fa4_111 0 lm_0 (fm_54 ad _ _ _) dX4_isFalse_2 ?_
  refine vv_iload_n hC dX4_isFalse_5 rfl 1 rfl ?_
  obtain ⟨hin, h⟩ := h
  refine vv_iald hC hR hK 32 lm_32 hin dX4_isFalse_6 ?_
  refine vv_callVi hC hR hK hRo hRm [.int (μ.1 32 v1.toNatClampNeg)] [] (met_X4_isSeal (vL C) D ac ad Ex hLay hEx (μ.1 32 v1.toNatClampNeg) μ _ h) gw4_383 mf_X4_isSeal rfl lm_0 rfl rfl rfl rfl dX4_isFalse_7 (fun r2 μ1 h => ?_)
  refine vv_if_ne (tgt := 15) hC dX4_isFalse_10 rfl (fun c3 => ?_) (fun c3 => ?_)
  · replace h := h.1 c3
    refine vv_aload_n hC dX4_isFalse_15 rfl 0 rfl ?_
    refine vv_getf hC hR hK fa4_108 0 lm_0 (fm_53 ad _ _ _) dX4_isFalse_16 ?_
    refine vv_iload_n hC dX4_isFalse_19 rfl 1 rfl ?_
    obtain ⟨hin, h⟩ := h
    refine vv_iald hC hR hK 31 lm_31 hin dX4_isFalse_20 ?_
    refine vv_aload_n hC dX4_isFalse_21 rfl 0 rfl ?_
    refine vv_aload_n hC dX4_isFalse_22 rfl 0 rfl ?_
    refine vv_aload_n hC dX4_isFalse_23 rfl 0 rfl ?_
    refine vv_getf hC hR hK fa4_111 0 lm_0 (fm_54 ad _ _ _) dX4_isFalse_24 ?_
    refine vv_iload_n hC dX4_isFalse_27 rfl 1 rfl ?_
    obtain ⟨hin, h⟩ := h
    refine vv_iald hC hR hK 32 lm_32 hin dX4_isFalse_28 ?_
    refine vv_callVi hC hR hK hRo hRm [.int (μ1.1 32 v1.toNatClampNeg)] [.ref (ad 0), .int (μ1.1 31 v1.toNatClampNeg)] (met_X4_rowOf (vL C) D ac ad Ex hLay hEx (μ1.1 32 v1.toNatClampNeg) μ1 _ h) gw4_392 mf_X4_rowOf rfl lm_0 rfl rfl rfl rfl dX4_isFalse_29 (fun r5 μ4 h => ?_)
    refine vv_callVi hC hR hK hRo hRm [.int r5] [.int (μ1.1 31 v1.toNatClampNeg)] (met_X4_turnedRow (vL C) D ac ad Ex hLay hEx r5 μ4 _ h) gw4_349 mf_X4_turnedRow rfl lm_0 rfl rfl rfl rfl dX4_isFalse_32 (fun r7 μ6 h => ?_)
    refine vv_iconst hC dX4_isFalse_35 ic_m1 ?_
    refine vv_ixor hC dX4_isFalse_36 ?_
    refine vv_iand hC dX4_isFalse_37 ?_
    refine vv_if_ne (tgt := 65) hC dX4_isFalse_38 rfl (fun c8 => ?_) (fun c8 => ?_)
    · replace h := h.1 c8
      refine vv_iconst hC dX4_isFalse_65 ic_1 ?_
      refine vv_goto (tgt := 70) hC dX4_isFalse_66 rfl ?_
      exact vv_zret hC hM dX4_isFalse_70 isB_1 h
    · replace h := h.2 c8
      refine vv_aload_n hC dX4_isFalse_41 rfl 0 rfl ?_
      refine vv_getf hC hR hK fa4_114 0 lm_0 (fm_55 ad _ _ _) dX4_isFalse_42 ?_
      refine vv_iload_n hC dX4_isFalse_45 rfl 1 rfl ?_
      obtain ⟨hin, h⟩ := h
      refine vv_iald hC hR hK 33 lm_33 hin dX4_isFalse_46 ?_
      refine vv_aload_n hC dX4_isFalse_47 rfl 0 rfl ?_
      refine vv_getf hC hR hK fa4_77 0 lm_0 (fm_40 ad _ _ _) dX4_isFalse_48 ?_
      refine vv_iconst hC dX4_isFalse_51 ic_4 ?_
      refine vv_aload_n hC dX4_isFalse_52 rfl 0 rfl ?_
      refine vv_getf hC hR hK fa4_111 0 lm_0 (fm_54 ad _ _ _) dX4_isFalse_53 ?_
      refine vv_iload_n hC dX4_isFalse_56 rfl 1 rfl ?_
      obtain ⟨hin, h⟩ := h
      refine vv_iald hC hR hK 32 lm_32 hin dX4_isFalse_57 ?_
      refine vv_imul hC dX4_isFalse_58 ?_
      refine vv_iconst hC dX4_isFalse_59 ic_3 ?_
      refine vv_iadd hC dX4_isFalse_60 ?_
      obtain ⟨hin, h⟩ := h
      refine vv_iald hC hR hK 21 lm_21 hin dX4_isFalse_61 ?_
      refine vv_icmp_ge (tgt := 69) hC dX4_isFalse_62 rfl (fun c9 => ?_) (fun c9 => ?_)
      · replace h := h.1 c9
        refine vv_iconst hC dX4_isFalse_69 ic_0 ?_
        exact vv_zret hC hM dX4_isFalse_70 isB_0 h
      · replace h := h.2 c9
        refine vv_iconst hC dX4_isFalse_65 ic_1 ?_
        refine vv_goto (tgt := 70) hC dX4_isFalse_66 rfl ?_
        exact vv_zret hC hM dX4_isFalse_70 isB_1 h
  · replace h := h.2 c3
    refine vv_iconst hC dX4_isFalse_13 ic_1 ?_
    exact vv_zret hC hM dX4_isFalse_14 isB_1 h
def w_X4_falses_73 (P9 : Int32 → Int32 → Int32 → WS → Prop) (v1 : Int32) (v2 : Int32) (v3 : Int32) (μ : WS) (Q : Int32 → WS → Prop) : Prop := P9 v1 v2 (v3 + 1) μ
def w_X4_falses_9b (P9 : Int32 → Int32 → Int32 → WS → Prop) (v1 : Int32) (v2 : Int32) (v3 : Int32) (μ : WS) (Q : Int32 → WS → Prop) : Prop := ((μ.1 0 58 ≤ v3) → Q v2 μ) ∧ ((¬ μ.1 0 58 ≤ v3) → (w_X4_counts v3 1 v1 μ (fun r4 μ3 => ((r4 = 0) → w_X4_falses_73 P9 v1 v2 v3 μ3 Q) ∧ ((¬ r4 = 0) → (w_X4_isFalse v3 μ3 (fun r7 μ6 => ((¬ r7 = 0) → ((¬ μ6.1 0 48 = 8) → (vp_in (μ6.1 0 48) 12 ∧ (∀ μ10 : WS, μ10 = wset μ6 26 (μ6.1 0 48).toNatClampNeg v3 → (∀ μ11 : WS, μ11 = wset μ10 0 48 ((μ10.1 0 48) + 1) → w_X4_falses_73 P9 v1 (v2 + 1) v3 μ11 Q)))) ∧ ((μ6.1 0 48 = 8) → w_X4_falses_73 P9 v1 (v2 + 1) v3 μ6 Q)) ∧ ((r7 = 0) → w_X4_falses_73 P9 v1 v2 v3 μ6 Q)))))))
def w_X4_falses_9 (v1 : Int32) (v2 : Int32) (v3 : Int32) (μ : WS) (Q : Int32 → WS → Prop) : Prop := ∀ P9 : Int32 → Int32 → Int32 → WS → Prop, (∀ (v1 : Int32) (v2 : Int32) (v3 : Int32) (μ : WS), w_X4_falses_9b  P9 v1 v2 v3 μ Q → P9 v1 v2 v3 μ) → P9 v1 v2 v3 μ
def w_X4_falses (v1 : Int32) (μ : WS) (Q : Int32 → WS → Prop) : Prop := (∀ μ1 : WS, μ1 = wset μ 0 48 0 → w_X4_falses_9 v1 0 0 μ1 Q)
abbrev rm_X4_falses : Room := { frames := 3, cells := 0, slots := 0, locals := 64 }
theorem mf_X4_falses : MFact yX4_falses 1 rm_X4_falses := ⟨by decide +kernel, rfl, rfl⟩
set_option maxHeartbeats 4000000 in
theorem met_X4_falses (l : Launch) (D : va_G) (ac : Nat → ClassId) (ad : Nat → Nat) (Ex : Heap → Prop) (hLay : LayOk ad knM) (hEx : ExOk ad knM Ex) (v1 : Int32) (μ : WS) (Q : Int32 → WS → Prop) (h : w_X4_falses v1 μ Q) : CMet l yX4_falses cX4_falses 4 (some .int) rm_X4_falses D ac ad knM Ex [.ref (ad 0), .int v1] μ (qI Q) := by
  refine vv_met (lv := [(0, .ref (ad 0)), (1, .int v1)]) (by decide) hLay hEx (Nat.le_of_ble_eq_true rfl) rfl ⟨rfl, rfl⟩ (fun C hC hK hRm hLl hR hM => ?_)
  subst hLl
  have hRo : RoomOk (HPW D ac ad knM Ex (vS C)) (vR C) := HPW.room
  have L73 : ∀ (P9 : Int32 → Int32 → Int32 → WS → Prop) (h9 : ∀ (v1 : Int32) (v2 : Int32) (v3 : Int32) (μ : WS), P9 v1 v2 v3 μ → VV C 4 (HPW D ac ad knM Ex (vS C)) (vQ C (QcW D ac ad knM (qI Q)) 0 0 (inLay ad knM)) (μ, ()) 9 [(0, .ref (ad 0)), (1, .int v1), (2, .int v2), (3, .int v3)] []) (v1 : Int32) (v2 : Int32) (v3 : Int32) (μ : WS), w_X4_falses_73 P9 v1 v2 v3 μ Q → VV C 4 (HPW D ac ad knM Ex (vS C)) (vQ C (QcW D ac ad knM (qI Q)) 0 0 (inLay ad knM)) (μ, ()) 73 [(0, .ref (ad 0)), (1, .int v1), (2, .int v2), (3, .int v3)] [] := by
    intro P9 h9 v1 v2 v3 μ h
    unfold w_X4_falses_73 at h
    refine vv_iinc (pl := 3) (v := v3 + 1) (lv' := [(3, .int (v3 + 1)), (0, .ref (ad 0)), (1, .int v1), (2, .int v2)]) hC dX4_falses_73 rfl rfl (by decide) rfl ?_
    refine vv_goto (tgt := 9) hC dX4_falses_76 rfl ?_
    refine vv_lv [1, 2, 3, 0] rfl ?_
    exact h9 _ _ _ _ h
  have L9 : ∀ (v1 : Int32) (v2 : Int32) (v3 : Int32) (μ : WS), w_X4_falses_9  v1 v2 v3 μ Q → VV C 4 (HPW D ac ad knM Ex (vS C)) (vQ C (QcW D ac ad knM (qI Q)) 0 0 (inLay ad knM)) (μ, ()) 9 [(0, .ref (ad 0)), (1, .int v1), (2, .int v2), (3, .int v3)] [] := by
    intro  v1 v2 v3 μ h
    refine h (fun v1 v2 v3 μ => VV C 4 (HPW D ac ad knM Ex (vS C)) (vQ C (QcW D ac ad knM (qI Q)) 0 0 (inLay ad knM)) (μ, ()) 9 [(0, .ref (ad 0)), (1, .int v1), (2, .int v2), (3, .int v3)] []) ?_
    clear h; intro v1 v2 v3 μ h
    have h9 : ∀ (v1 : Int32) (v2 : Int32) (v3 : Int32) (μ : WS), (fun v1 v2 v3 (μ : WS) => VV C 4 (HPW D ac ad knM Ex (vS C)) (vQ C (QcW D ac ad knM (qI Q)) 0 0 (inLay ad knM)) (μ, ()) 9 [(0, .ref (ad 0)), (1, .int v1), (2, .int v2), (3, .int v3)] []) v1 v2 v3 μ → VV C 4 (HPW D ac ad knM Ex (vS C)) (vQ C (QcW D ac ad knM (qI Q)) 0 0 (inLay ad knM)) (μ, ()) 9 [(0, .ref (ad 0)), (1, .int v1), (2, .int v2), (3, .int v3)] [] := fun _ _ _ _ h => h
    unfold w_X4_falses_9b at h
    refine vv_iload_n hC dX4_falses_9 rfl 3 rfl ?_
    refine vv_aload_n hC dX4_falses_10 rfl 0 rfl ?_
    refine vv_getf hC hR hK fa4_377 0 lm_0 (fm_58 ad _ _ _) dX4_falses_11 ?_
    refine vv_icmp_ge (tgt := 79) hC dX4_falses_14 rfl (fun c2 => ?_) (fun c2 => ?_)
    · replace h := h.1 c2
      refine vv_iload_n hC dX4_falses_79 rfl 2 rfl ?_
      exact vv_iret hC hM dX4_falses_80 h
    · replace h := h.2 c2
      refine vv_aload_n hC dX4_falses_17 rfl 0 rfl ?_
      refine vv_iload_n hC dX4_falses_18 rfl 3 rfl ?_
      refine vv_iconst hC dX4_falses_19 ic_1 ?_
      refine vv_iload_n hC dX4_falses_20 rfl 1 rfl ?_
      refine vv_callVi hC hR hK hRo hRm [.int v3, .int 1, .int v1] [] (met_X4_counts (vL C) D ac ad Ex hLay hEx v3 1 v1 μ _ h) gw4_430 mf_X4_counts rfl lm_0 rfl rfl rfl rfl dX4_falses_21 (fun r4 μ3 h => ?_)
      refine vv_if_eq (tgt := 73) hC dX4_falses_24 rfl (fun c5 => ?_) (fun c5 => ?_)
      · replace h := h.1 c5
        exact L73 _ h9 _ _ _ _ h
      · replace h := h.2 c5
        refine vv_aload_n hC dX4_falses_27 rfl 0 rfl ?_
        refine vv_iload_n hC dX4_falses_28 rfl 3 rfl ?_
        refine vv_callVi hC hR hK hRo hRm [.int v3] [] (met_X4_isFalse (vL C) D ac ad Ex hLay hEx v3 μ3 _ h) gw4_442 mf_X4_isFalse rfl lm_0 rfl rfl rfl rfl dX4_falses_29 (fun r7 μ6 h => ?_)
        refine vv_if_ne (tgt := 38) hC dX4_falses_32 rfl (fun c8 => ?_) (fun c8 => ?_)
        · replace h := h.1 c8
          refine vv_iinc (pl := 2) (v := v2 + 1) (lv' := [(2, .int (v2 + 1)), (0, .ref (ad 0)), (1, .int v1), (3, .int v3)]) hC dX4_falses_38 rfl rfl (by decide) rfl ?_
          refine vv_aload_n hC dX4_falses_41 rfl 1 rfl ?_
          refine vv_getf hC hR hK fa4_380 0 lm_0 (fm_48 ad _ _ _) dX4_falses_42 ?_
          refine vv_bipush hC dX4_falses_45 bp_8 ?_
          refine vv_icmp_ne (tgt := 53) hC dX4_falses_47 rfl (fun c9 => ?_) (fun c9 => ?_)
          · replace h := h.1 c9
            refine vv_aload_n hC dX4_falses_53 rfl 1 rfl ?_
            refine vv_getf hC hR hK fa4_92 0 lm_0 (fm_47 ad _ _ _) dX4_falses_54 ?_
            refine vv_aload_n hC dX4_falses_57 rfl 1 rfl ?_
            refine vv_getf hC hR hK fa4_380 0 lm_0 (fm_48 ad _ _ _) dX4_falses_58 ?_
            refine vv_iload_n hC dX4_falses_61 rfl 3 rfl ?_
            obtain ⟨hin, h⟩ := h
            refine vv_iast hC hR hK 26 lm_26 hin dX4_falses_62 ?_
            refine vv_st (fun y e => ?_)
            obtain ⟨μ10, _⟩ := y
            have eμ10 := congrArg Prod.fst e
            clear e
            replace h := h μ10 eμ10
            refine vv_aload_n hC dX4_falses_63 rfl 1 rfl ?_
            refine vv_dup hC dX4_falses_64 rfl ?_
            refine vv_getf hC hR hK fa4_380 0 lm_0 (fm_48 ad _ _ _) dX4_falses_65 ?_
            refine vv_iconst hC dX4_falses_68 ic_1 ?_
            refine vv_iadd hC dX4_falses_69 ?_
            refine vv_puti hC hR hK fa4_380 0 lm_0 fn_48 rfl rfl dX4_falses_70 ?_
            refine vv_st (fun y e => ?_)
            obtain ⟨μ11, _⟩ := y
            have eμ11 := congrArg Prod.fst e
            clear e
            replace h := h μ11 eμ11
            refine vv_lv [1, 2, 0, 3] rfl ?_
            exact L73 _ h9 _ _ _ _ h
          · replace h := h.2 c9
            refine vv_goto (tgt := 73) hC dX4_falses_50 rfl ?_
            refine vv_lv [1, 2, 0, 3] rfl ?_
            exact L73 _ h9 _ _ _ _ h
        · replace h := h.2 c8
          refine vv_goto (tgt := 73) hC dX4_falses_35 rfl ?_
          exact L73 _ h9 _ _ _ _ h
  unfold w_X4_falses at h
  refine vv_aload_n hC dX4_falses_0 rfl 0 rfl ?_
  refine vv_iconst hC dX4_falses_1 ic_0 ?_
  refine vv_puti hC hR hK fa4_380 0 lm_0 fn_48 rfl rfl dX4_falses_2 ?_
  refine vv_st (fun y e => ?_)
  obtain ⟨μ1, _⟩ := y
  have eμ1 := congrArg Prod.fst e
  clear e
  replace h := h μ1 eμ1
  refine vv_iconst hC dX4_falses_5 ic_0 ?_
  refine vv_istore_n (lv' := [(2, .int 0), (0, .ref (ad 0)), (1, .int v1)]) hC dX4_falses_6 rfl (by decide) rfl ?_
  refine vv_iconst hC dX4_falses_7 ic_0 ?_
  refine vv_istore_n (lv' := [(3, .int 0), (2, .int 0), (0, .ref (ad 0)), (1, .int v1)]) hC dX4_falses_8 rfl (by decide) rfl ?_
  refine vv_lv [2, 3, 1, 0] rfl ?_
  exact L9  _ _ _ _ h
def w_X4_span_137 (P36 : Int32 → Int32 → Int32 → Int32 → Int32 → Int32 → WS → Prop) (v1 : Int32) (v2 : Int32) (v3 : Int32) (v4 : Int32) (v5 : Int32) (v6 : Int32) (μ : WS) (Q : Int32 → WS → Prop) : Prop := P36 v1 v2 v3 v4 v5 (v6 + 1) μ
def w_X4_span_106 (P36 : Int32 → Int32 → Int32 → Int32 → Int32 → Int32 → WS → Prop) (v1 : Int32) (v2 : Int32) (v3 : Int32) (v4 : Int32) (v5 : Int32) (v6 : Int32) (μ : WS) (Q : Int32 → WS → Prop) : Prop := (vp_in v6 40 ∧ ((¬ μ.1 33 v6.toNatClampNeg = 0) → w_X4_span_137 P36 v1 v2 v3 v4 v5 v6 μ Q) ∧ ((μ.1 33 v6.toNatClampNeg = 0) → (vp_in v6 40 ∧ ((v5 ≤ μ.1 32 v6.toNatClampNeg) → w_X4_span_137 P36 v1 v2 v3 v4 v5 v6 μ Q) ∧ ((¬ v5 ≤ μ.1 32 v6.toNatClampNeg) → (vp_in v6 40 ∧ (∀ x23 : Int32, x23 = μ.1 32 v6.toNatClampNeg → w_X4_span_137 P36 v1 v2 v3 v4 x23 v6 μ Q))))))
def w_X4_span_36b (P36 : Int32 → Int32 → Int32 → Int32 → Int32 → Int32 → WS → Prop) (v1 : Int32) (v2 : Int32) (v3 : Int32) (v4 : Int32) (v5 : Int32) (v6 : Int32) (μ : WS) (Q : Int32 → WS → Prop) : Prop := ((μ.1 0 58 ≤ v6) → ((¬ v2 = 2) → ((v4 ≤ v5) → ((¬ v2 = 0) → Q v5 μ) ∧ ((v2 = 0) → Q v4 μ)) ∧ ((¬ v4 ≤ v5) → Q (-1) μ)) ∧ ((v2 = 2) → ((v4 ≤ v5) → Q ((v5 - v4) + 1) μ) ∧ ((¬ v4 ≤ v5) → Q 0 μ))) ∧ ((¬ μ.1 0 58 ≤ v6) → (w_X4_counts v6 2 v3 μ (fun r15 μ14 => ((r15 = 0) → w_X4_span_137 P36 v1 v2 v3 v4 v5 v6 μ14 Q) ∧ ((¬ r15 = 0) → (vp_in v6 40 ∧ ((μ14.1 31 v6.toNatClampNeg = v1) → (vp_in v6 40 ∧ ((¬ μ14.1 33 v6.toNatClampNeg = 1) → w_X4_span_106 P36 v1 v2 v3 v4 v5 v6 μ14 Q) ∧ ((μ14.1 33 v6.toNatClampNeg = 1) → (vp_in v6 40 ∧ (((μ14.1 32 v6.toNatClampNeg) + 1 ≤ v4) → w_X4_span_106 P36 v1 v2 v3 v4 v5 v6 μ14 Q) ∧ ((¬ (μ14.1 32 v6.toNatClampNeg) + 1 ≤ v4) → (vp_in v6 40 ∧ (∀ x20 : Int32, x20 = (μ14.1 32 v6.toNatClampNeg) + 1 → w_X4_span_106 P36 v1 v2 v3 x20 v5 v6 μ14 Q))))))) ∧ ((¬ μ14.1 31 v6.toNatClampNeg = v1) → w_X4_span_137 P36 v1 v2 v3 v4 v5 v6 μ14 Q))))))
def w_X4_span_36 (v1 : Int32) (v2 : Int32) (v3 : Int32) (v4 : Int32) (v5 : Int32) (v6 : Int32) (μ : WS) (Q : Int32 → WS → Prop) : Prop := ∀ P36 : Int32 → Int32 → Int32 → Int32 → Int32 → Int32 → WS → Prop, (∀ (v1 : Int32) (v2 : Int32) (v3 : Int32) (v4 : Int32) (v5 : Int32) (v6 : Int32) (μ : WS), w_X4_span_36b  P36 v1 v2 v3 v4 v5 v6 μ Q → P36 v1 v2 v3 v4 v5 v6 μ) → P36 v1 v2 v3 v4 v5 v6 μ
def w_X4_span (v1 : Int32) (v2 : Int32) (v3 : Int32) (μ : WS) (Q : Int32 → WS → Prop) : Prop := (w_X4_width μ (fun r2 μ1 => (w_X4_isIn v1 0 (r2 - 1) μ1 (fun r4 μ3 => ((r4 = 0) → Q (-1) μ3) ∧ ((¬ r4 = 0) → (w_X4_isIn v2 0 2 μ3 (fun r7 μ6 => ((¬ r7 = 0) → w_X4_span_36 v1 v2 v3 0 999 0 μ6 Q) ∧ ((r7 = 0) → Q (-1) μ6))))))))
abbrev rm_X4_span : Room := { frames := 1, cells := 0, slots := 0, locals := 23 }
theorem mf_X4_span : MFact yX4_span 3 rm_X4_span := ⟨by decide +kernel, rfl, rfl⟩
set_option maxHeartbeats 4000000 in
theorem met_X4_span (l : Launch) (D : va_G) (ac : Nat → ClassId) (ad : Nat → Nat) (Ex : Heap → Prop) (hLay : LayOk ad knM) (hEx : ExOk ad knM Ex) (v1 : Int32) (v2 : Int32) (v3 : Int32) (μ : WS) (Q : Int32 → WS → Prop) (h : w_X4_span v1 v2 v3 μ Q) : CMet l yX4_span cX4_span 7 (some .int) rm_X4_span D ac ad knM Ex [.ref (ad 0), .int v1, .int v2, .int v3] μ (qI Q) := by
  refine vv_met (lv := [(0, .ref (ad 0)), (1, .int v1), (2, .int v2), (3, .int v3)]) (by decide) hLay hEx (Nat.le_of_ble_eq_true rfl) rfl ⟨rfl, rfl⟩ (fun C hC hK hRm hLl hR hM => ?_)
  subst hLl
  have hRo : RoomOk (HPW D ac ad knM Ex (vS C)) (vR C) := HPW.room
  have L137 : ∀ (P36 : Int32 → Int32 → Int32 → Int32 → Int32 → Int32 → WS → Prop) (h36 : ∀ (v1 : Int32) (v2 : Int32) (v3 : Int32) (v4 : Int32) (v5 : Int32) (v6 : Int32) (μ : WS), P36 v1 v2 v3 v4 v5 v6 μ → VV C 7 (HPW D ac ad knM Ex (vS C)) (vQ C (QcW D ac ad knM (qI Q)) 0 0 (inLay ad knM)) (μ, ()) 36 [(0, .ref (ad 0)), (1, .int v1), (2, .int v2), (3, .int v3), (4, .int v4), (5, .int v5), (6, .int v6)] []) (v1 : Int32) (v2 : Int32) (v3 : Int32) (v4 : Int32) (v5 : Int32) (v6 : Int32) (μ : WS), w_X4_span_137 P36 v1 v2 v3 v4 v5 v6 μ Q → VV C 7 (HPW D ac ad knM Ex (vS C)) (vQ C (QcW D ac ad knM (qI Q)) 0 0 (inLay ad knM)) (μ, ()) 137 [(0, .ref (ad 0)), (1, .int v1), (2, .int v2), (3, .int v3), (4, .int v4), (5, .int v5), (6, .int v6)] [] := by
    intro P36 h36 v1 v2 v3 v4 v5 v6 μ h
    unfold w_X4_span_137 at h
    refine vv_iinc (pl := 6) (v := v6 + 1) (lv' := [(6, .int (v6 + 1)), (0, .ref (ad 0)), (1, .int v1), (2, .int v2), (3, .int v3), (4, .int v4), (5, .int v5)]) hC dX4_span_137 rfl rfl (by decide) rfl ?_
    refine vv_goto (tgt := 36) hC dX4_span_140 rfl ?_
    refine vv_lv [1, 2, 3, 4, 5, 6, 0] rfl ?_
    exact h36 _ _ _ _ _ _ _ h
  have L106 : ∀ (P36 : Int32 → Int32 → Int32 → Int32 → Int32 → Int32 → WS → Prop) (h36 : ∀ (v1 : Int32) (v2 : Int32) (v3 : Int32) (v4 : Int32) (v5 : Int32) (v6 : Int32) (μ : WS), P36 v1 v2 v3 v4 v5 v6 μ → VV C 7 (HPW D ac ad knM Ex (vS C)) (vQ C (QcW D ac ad knM (qI Q)) 0 0 (inLay ad knM)) (μ, ()) 36 [(0, .ref (ad 0)), (1, .int v1), (2, .int v2), (3, .int v3), (4, .int v4), (5, .int v5), (6, .int v6)] []) (v1 : Int32) (v2 : Int32) (v3 : Int32) (v4 : Int32) (v5 : Int32) (v6 : Int32) (μ : WS), w_X4_span_106 P36 v1 v2 v3 v4 v5 v6 μ Q → VV C 7 (HPW D ac ad knM Ex (vS C)) (vQ C (QcW D ac ad knM (qI Q)) 0 0 (inLay ad knM)) (μ, ()) 106 [(0, .ref (ad 0)), (1, .int v1), (2, .int v2), (3, .int v3), (4, .int v4), (5, .int v5), (6, .int v6)] [] := by
    intro P36 h36 v1 v2 v3 v4 v5 v6 μ h
    unfold w_X4_span_106 at h
    refine vv_aload_n hC dX4_span_106 rfl 0 rfl ?_
    refine vv_getf hC hR hK fa4_114 0 lm_0 (fm_55 ad _ _ _) dX4_span_107 ?_
    refine vv_iload hC dX4_span_110 6 rfl ?_
    obtain ⟨hin, h⟩ := h
    refine vv_iald hC hR hK 33 lm_33 hin dX4_span_112 ?_
    refine vv_if_ne (tgt := 137) hC dX4_span_113 rfl (fun c21 => ?_) (fun c21 => ?_)
    · replace h := h.1 c21
      exact L137 _ h36 _ _ _ _ _ _ _ h
    · replace h := h.2 c21
      refine vv_aload_n hC dX4_span_116 rfl 0 rfl ?_
      refine vv_getf hC hR hK fa4_111 0 lm_0 (fm_54 ad _ _ _) dX4_span_117 ?_
      refine vv_iload hC dX4_span_120 6 rfl ?_
      obtain ⟨hin, h⟩ := h
      refine vv_iald hC hR hK 32 lm_32 hin dX4_span_122 ?_
      refine vv_iload hC dX4_span_123 5 rfl ?_
      refine vv_icmp_ge (tgt := 137) hC dX4_span_125 rfl (fun c22 => ?_) (fun c22 => ?_)
      · replace h := h.1 c22
        exact L137 _ h36 _ _ _ _ _ _ _ h
      · replace h := h.2 c22
        refine vv_aload_n hC dX4_span_128 rfl 0 rfl ?_
        refine vv_getf hC hR hK fa4_111 0 lm_0 (fm_54 ad _ _ _) dX4_span_129 ?_
        refine vv_iload hC dX4_span_132 6 rfl ?_
        obtain ⟨hin, h⟩ := h
        refine vv_iald hC hR hK 32 lm_32 hin dX4_span_134 ?_
        refine vv_topi (fun x23 ex23 => ?_)
        replace h := h x23 ex23
        refine vv_istore (lv' := [(5, .int x23), (0, .ref (ad 0)), (1, .int v1), (2, .int v2), (3, .int v3), (4, .int v4), (6, .int v6)]) hC dX4_span_135 (by decide) rfl ?_
        refine vv_lv [1, 2, 3, 4, 5, 0, 6] rfl ?_
        exact L137 _ h36 _ _ _ _ _ _ _ h
  have L36 : ∀ (v1 : Int32) (v2 : Int32) (v3 : Int32) (v4 : Int32) (v5 : Int32) (v6 : Int32) (μ : WS), w_X4_span_36  v1 v2 v3 v4 v5 v6 μ Q → VV C 7 (HPW D ac ad knM Ex (vS C)) (vQ C (QcW D ac ad knM (qI Q)) 0 0 (inLay ad knM)) (μ, ()) 36 [(0, .ref (ad 0)), (1, .int v1), (2, .int v2), (3, .int v3), (4, .int v4), (5, .int v5), (6, .int v6)] [] := by
    intro  v1 v2 v3 v4 v5 v6 μ h
    refine h (fun v1 v2 v3 v4 v5 v6 μ => VV C 7 (HPW D ac ad knM Ex (vS C)) (vQ C (QcW D ac ad knM (qI Q)) 0 0 (inLay ad knM)) (μ, ()) 36 [(0, .ref (ad 0)), (1, .int v1), (2, .int v2), (3, .int v3), (4, .int v4), (5, .int v5), (6, .int v6)] []) ?_
    clear h; intro v1 v2 v3 v4 v5 v6 μ h
    have h36 : ∀ (v1 : Int32) (v2 : Int32) (v3 : Int32) (v4 : Int32) (v5 : Int32) (v6 : Int32) (μ : WS), (fun v1 v2 v3 v4 v5 v6 (μ : WS) => VV C 7 (HPW D ac ad knM Ex (vS C)) (vQ C (QcW D ac ad knM (qI Q)) 0 0 (inLay ad knM)) (μ, ()) 36 [(0, .ref (ad 0)), (1, .int v1), (2, .int v2), (3, .int v3), (4, .int v4), (5, .int v5), (6, .int v6)] []) v1 v2 v3 v4 v5 v6 μ → VV C 7 (HPW D ac ad knM Ex (vS C)) (vQ C (QcW D ac ad knM (qI Q)) 0 0 (inLay ad knM)) (μ, ()) 36 [(0, .ref (ad 0)), (1, .int v1), (2, .int v2), (3, .int v3), (4, .int v4), (5, .int v5), (6, .int v6)] [] := fun _ _ _ _ _ _ _ h => h
    unfold w_X4_span_36b at h
    refine vv_iload hC dX4_span_36 6 rfl ?_
    refine vv_aload_n hC dX4_span_38 rfl 0 rfl ?_
    refine vv_getf hC hR hK fa4_377 0 lm_0 (fm_58 ad _ _ _) dX4_span_39 ?_
    refine vv_icmp_ge (tgt := 143) hC dX4_span_42 rfl (fun c9 => ?_) (fun c9 => ?_)
    · replace h := h.1 c9
      refine vv_iload_n hC dX4_span_143 rfl 2 rfl ?_
      refine vv_iconst hC dX4_span_144 ic_2 ?_
      refine vv_icmp_ne (tgt := 167) hC dX4_span_145 rfl (fun c10 => ?_) (fun c10 => ?_)
      · replace h := h.1 c10
        refine vv_iload hC dX4_span_167 5 rfl ?_
        refine vv_iload hC dX4_span_169 4 rfl ?_
        refine vv_icmp_ge (tgt := 178) hC dX4_span_171 rfl (fun c11 => ?_) (fun c11 => ?_)
        · replace h := h.1 c11
          refine vv_iload_n hC dX4_span_178 rfl 2 rfl ?_
          refine vv_if_ne (tgt := 187) hC dX4_span_179 rfl (fun c12 => ?_) (fun c12 => ?_)
          · replace h := h.1 c12
            refine vv_iload hC dX4_span_187 5 rfl ?_
            exact vv_iret hC hM dX4_span_189 h
          · replace h := h.2 c12
            refine vv_iload hC dX4_span_182 4 rfl ?_
            refine vv_goto (tgt := 189) hC dX4_span_184 rfl ?_
            exact vv_iret hC hM dX4_span_189 h
        · replace h := h.2 c11
          refine vv_iconst hC dX4_span_174 ic_m1 ?_
          refine vv_goto (tgt := 189) hC dX4_span_175 rfl ?_
          exact vv_iret hC hM dX4_span_189 h
      · replace h := h.2 c10
        refine vv_iload hC dX4_span_148 5 rfl ?_
        refine vv_iload hC dX4_span_150 4 rfl ?_
        refine vv_icmp_ge (tgt := 159) hC dX4_span_152 rfl (fun c13 => ?_) (fun c13 => ?_)
        · replace h := h.1 c13
          refine vv_iload hC dX4_span_159 5 rfl ?_
          refine vv_iload hC dX4_span_161 4 rfl ?_
          refine vv_isub hC dX4_span_163 ?_
          refine vv_iconst hC dX4_span_164 ic_1 ?_
          refine vv_iadd hC dX4_span_165 ?_
          exact vv_iret hC hM dX4_span_166 h
        · replace h := h.2 c13
          refine vv_iconst hC dX4_span_155 ic_0 ?_
          refine vv_goto (tgt := 166) hC dX4_span_156 rfl ?_
          exact vv_iret hC hM dX4_span_166 h
    · replace h := h.2 c9
      refine vv_aload_n hC dX4_span_45 rfl 0 rfl ?_
      refine vv_iload hC dX4_span_46 6 rfl ?_
      refine vv_iconst hC dX4_span_48 ic_2 ?_
      refine vv_iload_n hC dX4_span_49 rfl 3 rfl ?_
      refine vv_callVi hC hR hK hRo hRm [.int v6, .int 2, .int v3] [] (met_X4_counts (vL C) D ac ad Ex hLay hEx v6 2 v3 μ _ h) gw4_430 mf_X4_counts rfl lm_0 rfl rfl rfl rfl dX4_span_50 (fun r15 μ14 h => ?_)
      refine vv_if_eq (tgt := 137) hC dX4_span_53 rfl (fun c16 => ?_) (fun c16 => ?_)
      · replace h := h.1 c16
        exact L137 _ h36 _ _ _ _ _ _ _ h
      · replace h := h.2 c16
        refine vv_aload_n hC dX4_span_56 rfl 0 rfl ?_
        refine vv_getf hC hR hK fa4_108 0 lm_0 (fm_53 ad _ _ _) dX4_span_57 ?_
        refine vv_iload hC dX4_span_60 6 rfl ?_
        obtain ⟨hin, h⟩ := h
        refine vv_iald hC hR hK 31 lm_31 hin dX4_span_62 ?_
        refine vv_iload_n hC dX4_span_63 rfl 1 rfl ?_
        refine vv_icmp_eq (tgt := 70) hC dX4_span_64 rfl (fun c17 => ?_) (fun c17 => ?_)
        · replace h := h.1 c17
          refine vv_aload_n hC dX4_span_70 rfl 0 rfl ?_
          refine vv_getf hC hR hK fa4_114 0 lm_0 (fm_55 ad _ _ _) dX4_span_71 ?_
          refine vv_iload hC dX4_span_74 6 rfl ?_
          obtain ⟨hin, h⟩ := h
          refine vv_iald hC hR hK 33 lm_33 hin dX4_span_76 ?_
          refine vv_iconst hC dX4_span_77 ic_1 ?_
          refine vv_icmp_ne (tgt := 106) hC dX4_span_78 rfl (fun c18 => ?_) (fun c18 => ?_)
          · replace h := h.1 c18
            exact L106 _ h36 _ _ _ _ _ _ _ h
          · replace h := h.2 c18
            refine vv_aload_n hC dX4_span_81 rfl 0 rfl ?_
            refine vv_getf hC hR hK fa4_111 0 lm_0 (fm_54 ad _ _ _) dX4_span_82 ?_
            refine vv_iload hC dX4_span_85 6 rfl ?_
            obtain ⟨hin, h⟩ := h
            refine vv_iald hC hR hK 32 lm_32 hin dX4_span_87 ?_
            refine vv_iconst hC dX4_span_88 ic_1 ?_
            refine vv_iadd hC dX4_span_89 ?_
            refine vv_iload hC dX4_span_90 4 rfl ?_
            refine vv_icmp_le (tgt := 106) hC dX4_span_92 rfl (fun c19 => ?_) (fun c19 => ?_)
            · replace h := h.1 c19
              exact L106 _ h36 _ _ _ _ _ _ _ h
            · replace h := h.2 c19
              refine vv_aload_n hC dX4_span_95 rfl 0 rfl ?_
              refine vv_getf hC hR hK fa4_111 0 lm_0 (fm_54 ad _ _ _) dX4_span_96 ?_
              refine vv_iload hC dX4_span_99 6 rfl ?_
              obtain ⟨hin, h⟩ := h
              refine vv_iald hC hR hK 32 lm_32 hin dX4_span_101 ?_
              refine vv_iconst hC dX4_span_102 ic_1 ?_
              refine vv_iadd hC dX4_span_103 ?_
              refine vv_topi (fun x20 ex20 => ?_)
              replace h := h x20 ex20
              refine vv_istore (lv' := [(4, .int x20), (0, .ref (ad 0)), (1, .int v1), (2, .int v2), (3, .int v3), (5, .int v5), (6, .int v6)]) hC dX4_span_104 (by decide) rfl ?_
              refine vv_lv [1, 2, 3, 4, 0, 5, 6] rfl ?_
              exact L106 _ h36 _ _ _ _ _ _ _ h
        · replace h := h.2 c17
          refine vv_goto (tgt := 137) hC dX4_span_67 rfl ?_
          exact L137 _ h36 _ _ _ _ _ _ _ h
  unfold w_X4_span at h
  refine vv_iload_n hC dX4_span_0 rfl 1 rfl ?_
  refine vv_iconst hC dX4_span_1 ic_0 ?_
  refine vv_aload_n hC dX4_span_2 rfl 0 rfl ?_
  refine vv_callVi hC hR hK hRo hRm [] [.int 0, .int v1] (met_X4_width (vL C) D ac ad Ex hLay hEx  μ _ h) gw4_342 mf_X4_width rfl lm_0 rfl rfl rfl rfl dX4_span_3 (fun r2 μ1 h => ?_)
  refine vv_iconst hC dX4_span_6 ic_1 ?_
  refine vv_isub hC dX4_span_7 ?_
  refine vv_callSi hC hR hK hRo hRm [.int v1, .int 0, .int (r2 - 1)] [] (met_X4_isIn (vL C) D ac ad Ex hLay hEx v1 0 (r2 - 1) μ1 _ h) gw4_345 mf_X4_isIn rfl rfl rfl dX4_span_8 (fun r4 μ3 h => ?_)
  refine vv_if_eq (tgt := 23) hC dX4_span_11 rfl (fun c5 => ?_) (fun c5 => ?_)
  · replace h := h.1 c5
    refine vv_iconst hC dX4_span_23 ic_m1 ?_
    exact vv_iret hC hM dX4_span_24 h
  · replace h := h.2 c5
    refine vv_iload_n hC dX4_span_14 rfl 2 rfl ?_
    refine vv_iconst hC dX4_span_15 ic_0 ?_
    refine vv_iconst hC dX4_span_16 ic_2 ?_
    refine vv_callSi hC hR hK hRo hRm [.int v2, .int 0, .int 2] [] (met_X4_isIn (vL C) D ac ad Ex hLay hEx v2 0 2 μ3 _ h) gw4_345 mf_X4_isIn rfl rfl rfl dX4_span_17 (fun r7 μ6 h => ?_)
    refine vv_if_ne (tgt := 25) hC dX4_span_20 rfl (fun c8 => ?_) (fun c8 => ?_)
    · replace h := h.1 c8
      refine vv_iconst hC dX4_span_25 ic_0 ?_
      refine vv_istore (lv' := [(4, .int 0), (0, .ref (ad 0)), (1, .int v1), (2, .int v2), (3, .int v3)]) hC dX4_span_26 (by decide) rfl ?_
      refine vv_sipush hC dX4_span_28 sp_999 ?_
      refine vv_istore (lv' := [(5, .int 999), (4, .int 0), (0, .ref (ad 0)), (1, .int v1), (2, .int v2), (3, .int v3)]) hC dX4_span_31 (by decide) rfl ?_
      refine vv_iconst hC dX4_span_33 ic_0 ?_
      refine vv_istore (lv' := [(6, .int 0), (5, .int 999), (4, .int 0), (0, .ref (ad 0)), (1, .int v1), (2, .int v2), (3, .int v3)]) hC dX4_span_34 (by decide) rfl ?_
      refine vv_lv [3, 4, 5, 6, 2, 1, 0] rfl ?_
      exact L36  _ _ _ _ _ _ _ h
    · replace h := h.2 c8
      refine vv_iconst hC dX4_span_23 ic_m1 ?_
      exact vv_iret hC hM dX4_span_24 h
def w_X4_layLinks_195 (P30 : Int32 → Int32 → WS → Prop) (v1 : Int32) (v2 : Int32) (μ : WS) (Q : Int32 → WS → Prop) : Prop := P30 v1 (v2 + 1) μ
def w_X4_layLinks_189 (P30 : Int32 → Int32 → WS → Prop) (P142 : Int32 → Int32 → Int32 → Int32 → Int32 → Int32 → WS → Prop) (v1 : Int32) (v2 : Int32) (v3 : Int32) (v5 : Int32) (v6 : Int32) (v7 : Int32) (μ : WS) (Q : Int32 → WS → Prop) : Prop := P142 v1 v2 v3 v5 v6 (v7 + 1) μ
def w_X4_layLinks_142b (P30 : Int32 → Int32 → WS → Prop) (P142 : Int32 → Int32 → Int32 → Int32 → Int32 → Int32 → WS → Prop) (v1 : Int32) (v2 : Int32) (v3 : Int32) (v5 : Int32) (v6 : Int32) (v7 : Int32) (μ : WS) (Q : Int32 → WS → Prop) : Prop := ((8 ≤ v7) → w_X4_layLinks_195 P30 v1 v2 μ Q) ∧ ((¬ 8 ≤ v7) → (vp_in v7 8 ∧ ((μ.1 41 v7.toNatClampNeg = v5) → (vp_in v3 8 ∧ (vp_in v7 8 ∧ (∀ μ16 : WS, μ16 = wset μ 41 v7.toNatClampNeg (μ.1 41 v3.toNatClampNeg) → (vp_in v7 8 ∧ (vp_in v7 8 ∧ (∀ μ17 : WS, μ17 = wset μ16 40 v7.toNatClampNeg ((μ16.1 40 v7.toNatClampNeg) ^^^ v6) → w_X4_layLinks_189 P30 P142 v1 v2 v3 v5 v6 v7 μ17 Q))))))) ∧ ((¬ μ.1 41 v7.toNatClampNeg = v5) → w_X4_layLinks_189 P30 P142 v1 v2 v3 v5 v6 v7 μ Q)))
def w_X4_layLinks_142 (P30 : Int32 → Int32 → WS → Prop) (v1 : Int32) (v2 : Int32) (v3 : Int32) (v5 : Int32) (v6 : Int32) (v7 : Int32) (μ : WS) (Q : Int32 → WS → Prop) : Prop := ∀ P142 : Int32 → Int32 → Int32 → Int32 → Int32 → Int32 → WS → Prop, (∀ (v1 : Int32) (v2 : Int32) (v3 : Int32) (v5 : Int32) (v6 : Int32) (v7 : Int32) (μ : WS), w_X4_layLinks_142b P30 P142 v1 v2 v3 v5 v6 v7 μ Q → P142 v1 v2 v3 v5 v6 v7 μ) → P142 v1 v2 v3 v5 v6 v7 μ
def w_X4_layLinks_30b (P30 : Int32 → Int32 → WS → Prop) (v1 : Int32) (v2 : Int32) (μ : WS) (Q : Int32 → WS → Prop) : Prop := ((μ.1 0 58 ≤ v2) → Q 1 μ) ∧ ((¬ μ.1 0 58 ≤ v2) → (w_X4_counts v2 3 v1 μ (fun r6 μ5 => ((¬ r6 = 0) → (vp_in v2 40 ∧ (∀ x8 : Int32, x8 = μ5.1 31 v2.toNatClampNeg → (vp_in v2 40 ∧ (∀ x9 : Int32, x9 = μ5.1 32 v2.toNatClampNeg → (vp_in x8 8 ∧ (vp_in x9 8 ∧ ((¬ μ5.1 41 x8.toNatClampNeg = μ5.1 41 x9.toNatClampNeg) → (vp_in x9 8 ∧ (∀ x11 : Int32, x11 = μ5.1 41 x9.toNatClampNeg → (vp_in x8 8 ∧ (vp_in x9 8 ∧ (vp_in v2 40 ∧ (∀ x12 : Int32, x12 = ((μ5.1 40 x8.toNatClampNeg) ^^^ (μ5.1 40 x9.toNatClampNeg)) ^^^ (μ5.1 33 v2.toNatClampNeg) → w_X4_layLinks_142 P30 v1 v2 x8 x11 x12 0 μ5 Q))))))) ∧ ((μ5.1 41 x8.toNatClampNeg = μ5.1 41 x9.toNatClampNeg) → (vp_in x8 8 ∧ (vp_in x9 8 ∧ (vp_in v2 40 ∧ (((μ5.1 40 x8.toNatClampNeg) ^^^ (μ5.1 40 x9.toNatClampNeg) = μ5.1 33 v2.toNatClampNeg) → w_X4_layLinks_195 P30 v1 v2 μ5 Q) ∧ ((¬ (μ5.1 40 x8.toNatClampNeg) ^^^ (μ5.1 40 x9.toNatClampNeg) = μ5.1 33 v2.toNatClampNeg) → Q 0 μ5)))))))))))) ∧ ((r6 = 0) → w_X4_layLinks_195 P30 v1 v2 μ5 Q))))
def w_X4_layLinks_30 (v1 : Int32) (v2 : Int32) (μ : WS) (Q : Int32 → WS → Prop) : Prop := ∀ P30 : Int32 → Int32 → WS → Prop, (∀ (v1 : Int32) (v2 : Int32) (μ : WS), w_X4_layLinks_30b  P30 v1 v2 μ Q → P30 v1 v2 μ) → P30 v1 v2 μ
def w_X4_layLinks_2b (P2 : Int32 → Int32 → WS → Prop) (v1 : Int32) (v2 : Int32) (μ : WS) (Q : Int32 → WS → Prop) : Prop := ((8 ≤ v2) → w_X4_layLinks_30 v1 0 μ Q) ∧ ((¬ 8 ≤ v2) → (vp_in v2 8 ∧ (∀ μ2 : WS, μ2 = wset μ 40 v2.toNatClampNeg 0 → (vp_in v2 8 ∧ (∀ μ3 : WS, μ3 = wset μ2 41 v2.toNatClampNeg v2 → P2 v1 (v2 + 1) μ3)))))
def w_X4_layLinks_2 (v1 : Int32) (v2 : Int32) (μ : WS) (Q : Int32 → WS → Prop) : Prop := ∀ P2 : Int32 → Int32 → WS → Prop, (∀ (v1 : Int32) (v2 : Int32) (μ : WS), w_X4_layLinks_2b  P2 v1 v2 μ Q → P2 v1 v2 μ) → P2 v1 v2 μ
def w_X4_layLinks (v1 : Int32) (μ : WS) (Q : Int32 → WS → Prop) : Prop := w_X4_layLinks_2 v1 0 μ Q
abbrev rm_X4_layLinks : Room := { frames := 1, cells := 0, slots := 0, locals := 23 }
theorem mf_X4_layLinks : MFact yX4_layLinks 1 rm_X4_layLinks := ⟨by decide +kernel, rfl, rfl⟩
set_option maxHeartbeats 4000000 in
theorem met_X4_layLinks (l : Launch) (D : va_G) (ac : Nat → ClassId) (ad : Nat → Nat) (Ex : Heap → Prop) (hLay : LayOk ad knM) (hEx : ExOk ad knM Ex) (v1 : Int32) (μ : WS) (Q : Int32 → WS → Prop) (h : w_X4_layLinks v1 μ Q) : CMet l yX4_layLinks cX4_layLinks 8 (some .boolean) rm_X4_layLinks D ac ad knM Ex [.ref (ad 0), .int v1] μ (qI Q) := by
  refine vv_met (lv := [(0, .ref (ad 0)), (1, .int v1)]) (by decide) hLay hEx (Nat.le_of_ble_eq_true rfl) rfl ⟨rfl, rfl⟩ (fun C hC hK hRm hLl hR hM => ?_)
  subst hLl
  have hRo : RoomOk (HPW D ac ad knM Ex (vS C)) (vR C) := HPW.room
  have L195 : ∀ (P30 : Int32 → Int32 → WS → Prop) (h30 : ∀ (v1 : Int32) (v2 : Int32) (μ : WS), P30 v1 v2 μ → VV C 8 (HPW D ac ad knM Ex (vS C)) (vQ C (QcW D ac ad knM (qI Q)) 0 0 (inLay ad knM)) (μ, ()) 30 [(0, .ref (ad 0)), (1, .int v1), (2, .int v2)] []) (v1 : Int32) (v2 : Int32) (μ : WS), w_X4_layLinks_195 P30 v1 v2 μ Q → VV C 8 (HPW D ac ad knM Ex (vS C)) (vQ C (QcW D ac ad knM (qI Q)) 0 0 (inLay ad knM)) (μ, ()) 195 [(0, .ref (ad 0)), (1, .int v1), (2, .int v2)] [] := by
    intro P30 h30 v1 v2 μ h
    unfold w_X4_layLinks_195 at h
    refine vv_iinc (pl := 2) (v := v2 + 1) (lv' := [(2, .int (v2 + 1)), (0, .ref (ad 0)), (1, .int v1)]) hC dX4_layLinks_195 rfl rfl (by decide) rfl ?_
    refine vv_goto (tgt := 30) hC dX4_layLinks_198 rfl ?_
    refine vv_lv [1, 2, 0] rfl ?_
    exact h30 _ _ _ h
  have L189 : ∀ (P30 : Int32 → Int32 → WS → Prop) (h30 : ∀ (v1 : Int32) (v2 : Int32) (μ : WS), P30 v1 v2 μ → VV C 8 (HPW D ac ad knM Ex (vS C)) (vQ C (QcW D ac ad knM (qI Q)) 0 0 (inLay ad knM)) (μ, ()) 30 [(0, .ref (ad 0)), (1, .int v1), (2, .int v2)] []) (P142 : Int32 → Int32 → Int32 → Int32 → Int32 → Int32 → WS → Prop) (h142 : ∀ (v1 : Int32) (v2 : Int32) (v3 : Int32) (v5 : Int32) (v6 : Int32) (v7 : Int32) (μ : WS), P142 v1 v2 v3 v5 v6 v7 μ → VV C 8 (HPW D ac ad knM Ex (vS C)) (vQ C (QcW D ac ad knM (qI Q)) 0 0 (inLay ad knM)) (μ, ()) 142 [(0, .ref (ad 0)), (1, .int v1), (2, .int v2), (3, .int v3), (5, .int v5), (6, .int v6), (7, .int v7)] []) (v1 : Int32) (v2 : Int32) (v3 : Int32) (v5 : Int32) (v6 : Int32) (v7 : Int32) (μ : WS), w_X4_layLinks_189 P30 P142 v1 v2 v3 v5 v6 v7 μ Q → VV C 8 (HPW D ac ad knM Ex (vS C)) (vQ C (QcW D ac ad knM (qI Q)) 0 0 (inLay ad knM)) (μ, ()) 189 [(0, .ref (ad 0)), (1, .int v1), (2, .int v2), (3, .int v3), (5, .int v5), (6, .int v6), (7, .int v7)] [] := by
    intro P30 h30 P142 h142 v1 v2 v3 v5 v6 v7 μ h
    unfold w_X4_layLinks_189 at h
    refine vv_iinc (pl := 6) (v := v7 + 1) (lv' := [(7, .int (v7 + 1)), (0, .ref (ad 0)), (1, .int v1), (2, .int v2), (3, .int v3), (5, .int v5), (6, .int v6)]) hC dX4_layLinks_189 rfl rfl (by decide) rfl ?_
    refine vv_goto (tgt := 142) hC dX4_layLinks_192 rfl ?_
    refine vv_lv [1, 2, 3, 4, 5, 6, 0] rfl ?_
    exact h142 _ _ _ _ _ _ _ h
  have L142 : ∀ (P30 : Int32 → Int32 → WS → Prop) (h30 : ∀ (v1 : Int32) (v2 : Int32) (μ : WS), P30 v1 v2 μ → VV C 8 (HPW D ac ad knM Ex (vS C)) (vQ C (QcW D ac ad knM (qI Q)) 0 0 (inLay ad knM)) (μ, ()) 30 [(0, .ref (ad 0)), (1, .int v1), (2, .int v2)] []) (v1 : Int32) (v2 : Int32) (v3 : Int32) (v5 : Int32) (v6 : Int32) (v7 : Int32) (μ : WS), w_X4_layLinks_142 P30 v1 v2 v3 v5 v6 v7 μ Q → VV C 8 (HPW D ac ad knM Ex (vS C)) (vQ C (QcW D ac ad knM (qI Q)) 0 0 (inLay ad knM)) (μ, ()) 142 [(0, .ref (ad 0)), (1, .int v1), (2, .int v2), (3, .int v3), (5, .int v5), (6, .int v6), (7, .int v7)] [] := by
    intro P30 h30 v1 v2 v3 v5 v6 v7 μ h
    refine h (fun v1 v2 v3 v5 v6 v7 μ => VV C 8 (HPW D ac ad knM Ex (vS C)) (vQ C (QcW D ac ad knM (qI Q)) 0 0 (inLay ad knM)) (μ, ()) 142 [(0, .ref (ad 0)), (1, .int v1), (2, .int v2), (3, .int v3), (5, .int v5), (6, .int v6), (7, .int v7)] []) ?_
    clear h; intro v1 v2 v3 v5 v6 v7 μ h
    have h142 : ∀ (v1 : Int32) (v2 : Int32) (v3 : Int32) (v5 : Int32) (v6 : Int32) (v7 : Int32) (μ : WS), (fun v1 v2 v3 v5 v6 v7 (μ : WS) => VV C 8 (HPW D ac ad knM Ex (vS C)) (vQ C (QcW D ac ad knM (qI Q)) 0 0 (inLay ad knM)) (μ, ()) 142 [(0, .ref (ad 0)), (1, .int v1), (2, .int v2), (3, .int v3), (5, .int v5), (6, .int v6), (7, .int v7)] []) v1 v2 v3 v5 v6 v7 μ → VV C 8 (HPW D ac ad knM Ex (vS C)) (vQ C (QcW D ac ad knM (qI Q)) 0 0 (inLay ad knM)) (μ, ()) 142 [(0, .ref (ad 0)), (1, .int v1), (2, .int v2), (3, .int v3), (5, .int v5), (6, .int v6), (7, .int v7)] [] := fun _ _ _ _ _ _ _ h => h
    unfold w_X4_layLinks_142b at h
    refine vv_iload hC dX4_layLinks_142 6 rfl ?_
    refine vv_bipush hC dX4_layLinks_144 bp_8 ?_
    refine vv_icmp_ge (tgt := 195) hC dX4_layLinks_146 rfl (fun c14 => ?_) (fun c14 => ?_)
    · replace h := h.1 c14
      refine vv_lv [0, 1, 2] rfl ?_
      exact L195 _ h30 _ _ _ h
    · replace h := h.2 c14
      refine vv_aload_n hC dX4_layLinks_149 rfl 0 rfl ?_
      refine vv_getf hC hR hK fa4_138 0 lm_0 (fm_66 ad _ _ _) dX4_layLinks_150 ?_
      refine vv_iload hC dX4_layLinks_153 6 rfl ?_
      obtain ⟨hin, h⟩ := h
      refine vv_iald hC hR hK 41 lm_41 hin dX4_layLinks_155 ?_
      refine vv_iload hC dX4_layLinks_156 4 rfl ?_
      refine vv_icmp_eq (tgt := 164) hC dX4_layLinks_158 rfl (fun c15 => ?_) (fun c15 => ?_)
      · replace h := h.1 c15
        refine vv_aload_n hC dX4_layLinks_164 rfl 0 rfl ?_
        refine vv_getf hC hR hK fa4_138 0 lm_0 (fm_66 ad _ _ _) dX4_layLinks_165 ?_
        refine vv_iload hC dX4_layLinks_168 6 rfl ?_
        refine vv_aload_n hC dX4_layLinks_170 rfl 0 rfl ?_
        refine vv_getf hC hR hK fa4_138 0 lm_0 (fm_66 ad _ _ _) dX4_layLinks_171 ?_
        refine vv_iload_n hC dX4_layLinks_174 rfl 3 rfl ?_
        obtain ⟨hin, h⟩ := h
        refine vv_iald hC hR hK 41 lm_41 hin dX4_layLinks_175 ?_
        obtain ⟨hin, h⟩ := h
        refine vv_iast hC hR hK 41 lm_41 hin dX4_layLinks_176 ?_
        refine vv_st (fun y e => ?_)
        obtain ⟨μ16, _⟩ := y
        have eμ16 := congrArg Prod.fst e
        clear e
        replace h := h μ16 eμ16
        refine vv_aload_n hC dX4_layLinks_177 rfl 0 rfl ?_
        refine vv_getf hC hR hK fa4_135 0 lm_0 (fm_65 ad _ _ _) dX4_layLinks_178 ?_
        refine vv_iload hC dX4_layLinks_181 6 rfl ?_
        refine vv_dup2 hC dX4_layLinks_183 rfl rfl ?_
        obtain ⟨hin, h⟩ := h
        refine vv_iald hC hR hK 40 lm_40 hin dX4_layLinks_184 ?_
        refine vv_iload hC dX4_layLinks_185 5 rfl ?_
        refine vv_ixor hC dX4_layLinks_187 ?_
        obtain ⟨hin, h⟩ := h
        refine vv_iast hC hR hK 40 lm_40 hin dX4_layLinks_188 ?_
        refine vv_st (fun y e => ?_)
        obtain ⟨μ17, _⟩ := y
        have eμ17 := congrArg Prod.fst e
        clear e
        replace h := h μ17 eμ17
        exact L189 _ h30 _ h142 _ _ _ _ _ _ _ h
      · replace h := h.2 c15
        refine vv_goto (tgt := 189) hC dX4_layLinks_161 rfl ?_
        exact L189 _ h30 _ h142 _ _ _ _ _ _ _ h
  have L30 : ∀ (v1 : Int32) (v2 : Int32) (μ : WS), w_X4_layLinks_30  v1 v2 μ Q → VV C 8 (HPW D ac ad knM Ex (vS C)) (vQ C (QcW D ac ad knM (qI Q)) 0 0 (inLay ad knM)) (μ, ()) 30 [(0, .ref (ad 0)), (1, .int v1), (2, .int v2)] [] := by
    intro  v1 v2 μ h
    refine h (fun v1 v2 μ => VV C 8 (HPW D ac ad knM Ex (vS C)) (vQ C (QcW D ac ad knM (qI Q)) 0 0 (inLay ad knM)) (μ, ()) 30 [(0, .ref (ad 0)), (1, .int v1), (2, .int v2)] []) ?_
    clear h; intro v1 v2 μ h
    have h30 : ∀ (v1 : Int32) (v2 : Int32) (μ : WS), (fun v1 v2 (μ : WS) => VV C 8 (HPW D ac ad knM Ex (vS C)) (vQ C (QcW D ac ad knM (qI Q)) 0 0 (inLay ad knM)) (μ, ()) 30 [(0, .ref (ad 0)), (1, .int v1), (2, .int v2)] []) v1 v2 μ → VV C 8 (HPW D ac ad knM Ex (vS C)) (vQ C (QcW D ac ad knM (qI Q)) 0 0 (inLay ad knM)) (μ, ()) 30 [(0, .ref (ad 0)), (1, .int v1), (2, .int v2)] [] := fun _ _ _ h => h
    unfold w_X4_layLinks_30b at h
    refine vv_iload_n hC dX4_layLinks_30 rfl 2 rfl ?_
    refine vv_aload_n hC dX4_layLinks_31 rfl 0 rfl ?_
    refine vv_getf hC hR hK fa4_377 0 lm_0 (fm_58 ad _ _ _) dX4_layLinks_32 ?_
    refine vv_icmp_ge (tgt := 201) hC dX4_layLinks_35 rfl (fun c4 => ?_) (fun c4 => ?_)
    · replace h := h.1 c4
      refine vv_iconst hC dX4_layLinks_201 ic_1 ?_
      exact vv_zret hC hM dX4_layLinks_202 isB_1 h
    · replace h := h.2 c4
      refine vv_aload_n hC dX4_layLinks_38 rfl 0 rfl ?_
      refine vv_iload_n hC dX4_layLinks_39 rfl 2 rfl ?_
      refine vv_iconst hC dX4_layLinks_40 ic_3 ?_
      refine vv_iload_n hC dX4_layLinks_41 rfl 1 rfl ?_
      refine vv_callVi hC hR hK hRo hRm [.int v2, .int 3, .int v1] [] (met_X4_counts (vL C) D ac ad Ex hLay hEx v2 3 v1 μ _ h) gw4_430 mf_X4_counts rfl lm_0 rfl rfl rfl rfl dX4_layLinks_42 (fun r6 μ5 h => ?_)
      refine vv_if_ne (tgt := 51) hC dX4_layLinks_45 rfl (fun c7 => ?_) (fun c7 => ?_)
      · replace h := h.1 c7
        refine vv_aload_n hC dX4_layLinks_51 rfl 0 rfl ?_
        refine vv_getf hC hR hK fa4_108 0 lm_0 (fm_53 ad _ _ _) dX4_layLinks_52 ?_
        refine vv_iload_n hC dX4_layLinks_55 rfl 2 rfl ?_
        obtain ⟨hin, h⟩ := h
        refine vv_iald hC hR hK 31 lm_31 hin dX4_layLinks_56 ?_
        refine vv_topi (fun x8 ex8 => ?_)
        replace h := h x8 ex8
        refine vv_istore_n (lv' := [(3, .int x8), (0, .ref (ad 0)), (1, .int v1), (2, .int v2)]) hC dX4_layLinks_57 rfl (by decide) rfl ?_
        refine vv_aload_n hC dX4_layLinks_58 rfl 1 rfl ?_
        refine vv_getf hC hR hK fa4_111 0 lm_0 (fm_54 ad _ _ _) dX4_layLinks_59 ?_
        refine vv_iload_n hC dX4_layLinks_62 rfl 3 rfl ?_
        obtain ⟨hin, h⟩ := h
        refine vv_iald hC hR hK 32 lm_32 hin dX4_layLinks_63 ?_
        refine vv_topi (fun x9 ex9 => ?_)
        replace h := h x9 ex9
        refine vv_istore (lv' := [(4, .int x9), (3, .int x8), (0, .ref (ad 0)), (1, .int v1), (2, .int v2)]) hC dX4_layLinks_64 (by decide) rfl ?_
        refine vv_aload_n hC dX4_layLinks_66 rfl 2 rfl ?_
        refine vv_getf hC hR hK fa4_138 0 lm_0 (fm_66 ad _ _ _) dX4_layLinks_67 ?_
        refine vv_iload_n hC dX4_layLinks_70 rfl 1 rfl ?_
        obtain ⟨hin, h⟩ := h
        refine vv_iald hC hR hK 41 lm_41 hin dX4_layLinks_71 ?_
        refine vv_aload_n hC dX4_layLinks_72 rfl 2 rfl ?_
        refine vv_getf hC hR hK fa4_138 0 lm_0 (fm_66 ad _ _ _) dX4_layLinks_73 ?_
        refine vv_iload hC dX4_layLinks_76 0 rfl ?_
        obtain ⟨hin, h⟩ := h
        refine vv_iald hC hR hK 41 lm_41 hin dX4_layLinks_78 ?_
        refine vv_icmp_ne (tgt := 107) hC dX4_layLinks_79 rfl (fun c10 => ?_) (fun c10 => ?_)
        · replace h := h.1 c10
          refine vv_aload_n hC dX4_layLinks_107 rfl 2 rfl ?_
          refine vv_getf hC hR hK fa4_138 0 lm_0 (fm_66 ad _ _ _) dX4_layLinks_108 ?_
          refine vv_iload hC dX4_layLinks_111 0 rfl ?_
          obtain ⟨hin, h⟩ := h
          refine vv_iald hC hR hK 41 lm_41 hin dX4_layLinks_113 ?_
          refine vv_topi (fun x11 ex11 => ?_)
          replace h := h x11 ex11
          refine vv_istore (lv' := [(5, .int x11), (4, .int x9), (3, .int x8), (0, .ref (ad 0)), (1, .int v1), (2, .int v2)]) hC dX4_layLinks_114 (by decide) rfl ?_
          refine vv_aload_n hC dX4_layLinks_116 rfl 3 rfl ?_
          refine vv_getf hC hR hK fa4_135 0 lm_0 (fm_65 ad _ _ _) dX4_layLinks_117 ?_
          refine vv_iload_n hC dX4_layLinks_120 rfl 2 rfl ?_
          obtain ⟨hin, h⟩ := h
          refine vv_iald hC hR hK 40 lm_40 hin dX4_layLinks_121 ?_
          refine vv_aload_n hC dX4_layLinks_122 rfl 3 rfl ?_
          refine vv_getf hC hR hK fa4_135 0 lm_0 (fm_65 ad _ _ _) dX4_layLinks_123 ?_
          refine vv_iload hC dX4_layLinks_126 1 rfl ?_
          obtain ⟨hin, h⟩ := h
          refine vv_iald hC hR hK 40 lm_40 hin dX4_layLinks_128 ?_
          refine vv_ixor hC dX4_layLinks_129 ?_
          refine vv_aload_n hC dX4_layLinks_130 rfl 3 rfl ?_
          refine vv_getf hC hR hK fa4_114 0 lm_0 (fm_55 ad _ _ _) dX4_layLinks_131 ?_
          refine vv_iload_n hC dX4_layLinks_134 rfl 5 rfl ?_
          obtain ⟨hin, h⟩ := h
          refine vv_iald hC hR hK 33 lm_33 hin dX4_layLinks_135 ?_
          refine vv_ixor hC dX4_layLinks_136 ?_
          refine vv_topi (fun x12 ex12 => ?_)
          replace h := h x12 ex12
          refine vv_istore (lv' := [(6, .int x12), (5, .int x11), (4, .int x9), (3, .int x8), (0, .ref (ad 0)), (1, .int v1), (2, .int v2)]) hC dX4_layLinks_137 (by decide) rfl ?_
          refine vv_iconst hC dX4_layLinks_139 ic_0 ?_
          refine vv_istore (lv' := [(7, .int 0), (6, .int x12), (5, .int x11), (4, .int x9), (3, .int x8), (0, .ref (ad 0)), (1, .int v1), (2, .int v2)]) hC dX4_layLinks_140 (by decide) rfl ?_
          refine vv_lv [5, 6, 7, 4, 2, 1, 0] rfl ?_
          exact L142 _ h30 _ _ _ _ _ _ _ h
        · replace h := h.2 c10
          refine vv_aload_n hC dX4_layLinks_82 rfl 2 rfl ?_
          refine vv_getf hC hR hK fa4_135 0 lm_0 (fm_65 ad _ _ _) dX4_layLinks_83 ?_
          refine vv_iload_n hC dX4_layLinks_86 rfl 1 rfl ?_
          obtain ⟨hin, h⟩ := h
          refine vv_iald hC hR hK 40 lm_40 hin dX4_layLinks_87 ?_
          refine vv_aload_n hC dX4_layLinks_88 rfl 2 rfl ?_
          refine vv_getf hC hR hK fa4_135 0 lm_0 (fm_65 ad _ _ _) dX4_layLinks_89 ?_
          refine vv_iload hC dX4_layLinks_92 0 rfl ?_
          obtain ⟨hin, h⟩ := h
          refine vv_iald hC hR hK 40 lm_40 hin dX4_layLinks_94 ?_
          refine vv_ixor hC dX4_layLinks_95 ?_
          refine vv_aload_n hC dX4_layLinks_96 rfl 2 rfl ?_
          refine vv_getf hC hR hK fa4_114 0 lm_0 (fm_55 ad _ _ _) dX4_layLinks_97 ?_
          refine vv_iload_n hC dX4_layLinks_100 rfl 4 rfl ?_
          obtain ⟨hin, h⟩ := h
          refine vv_iald hC hR hK 33 lm_33 hin dX4_layLinks_101 ?_
          refine vv_icmp_eq (tgt := 195) hC dX4_layLinks_102 rfl (fun c13 => ?_) (fun c13 => ?_)
          · replace h := h.1 c13
            refine vv_lv [2, 3, 4] rfl ?_
            exact L195 _ h30 _ _ _ h
          · replace h := h.2 c13
            refine vv_iconst hC dX4_layLinks_105 ic_0 ?_
            exact vv_zret hC hM dX4_layLinks_106 isB_0 h
      · replace h := h.2 c7
        refine vv_goto (tgt := 195) hC dX4_layLinks_48 rfl ?_
        exact L195 _ h30 _ _ _ h
  have L2 : ∀ (v1 : Int32) (v2 : Int32) (μ : WS), w_X4_layLinks_2  v1 v2 μ Q → VV C 8 (HPW D ac ad knM Ex (vS C)) (vQ C (QcW D ac ad knM (qI Q)) 0 0 (inLay ad knM)) (μ, ()) 2 [(0, .ref (ad 0)), (1, .int v1), (2, .int v2)] [] := by
    intro  v1 v2 μ h
    refine h (fun v1 v2 μ => VV C 8 (HPW D ac ad knM Ex (vS C)) (vQ C (QcW D ac ad knM (qI Q)) 0 0 (inLay ad knM)) (μ, ()) 2 [(0, .ref (ad 0)), (1, .int v1), (2, .int v2)] []) ?_
    clear h; intro v1 v2 μ h
    have h2 : ∀ (v1 : Int32) (v2 : Int32) (μ : WS), (fun v1 v2 (μ : WS) => VV C 8 (HPW D ac ad knM Ex (vS C)) (vQ C (QcW D ac ad knM (qI Q)) 0 0 (inLay ad knM)) (μ, ()) 2 [(0, .ref (ad 0)), (1, .int v1), (2, .int v2)] []) v1 v2 μ → VV C 8 (HPW D ac ad knM Ex (vS C)) (vQ C (QcW D ac ad knM (qI Q)) 0 0 (inLay ad knM)) (μ, ()) 2 [(0, .ref (ad 0)), (1, .int v1), (2, .int v2)] [] := fun _ _ _ h => h
    unfold w_X4_layLinks_2b at h
    refine vv_iload_n hC dX4_layLinks_2 rfl 2 rfl ?_
    refine vv_bipush hC dX4_layLinks_3 bp_8 ?_
    refine vv_icmp_ge (tgt := 28) hC dX4_layLinks_5 rfl (fun c1 => ?_) (fun c1 => ?_)
    · replace h := h.1 c1
      refine vv_iconst hC dX4_layLinks_28 ic_0 ?_
      refine vv_istore_n (lv' := [(2, .int 0), (0, .ref (ad 0)), (1, .int v1)]) hC dX4_layLinks_29 rfl (by decide) rfl ?_
      refine vv_lv [1, 2, 0] rfl ?_
      exact L30  _ _ _ h
    · replace h := h.2 c1
      refine vv_aload_n hC dX4_layLinks_8 rfl 0 rfl ?_
      refine vv_getf hC hR hK fa4_135 0 lm_0 (fm_65 ad _ _ _) dX4_layLinks_9 ?_
      refine vv_iload_n hC dX4_layLinks_12 rfl 2 rfl ?_
      refine vv_iconst hC dX4_layLinks_13 ic_0 ?_
      obtain ⟨hin, h⟩ := h
      refine vv_iast hC hR hK 40 lm_40 hin dX4_layLinks_14 ?_
      refine vv_st (fun y e => ?_)
      obtain ⟨μ2, _⟩ := y
      have eμ2 := congrArg Prod.fst e
      clear e
      replace h := h μ2 eμ2
      refine vv_aload_n hC dX4_layLinks_15 rfl 0 rfl ?_
      refine vv_getf hC hR hK fa4_138 0 lm_0 (fm_66 ad _ _ _) dX4_layLinks_16 ?_
      refine vv_iload_n hC dX4_layLinks_19 rfl 2 rfl ?_
      refine vv_iload_n hC dX4_layLinks_20 rfl 2 rfl ?_
      obtain ⟨hin, h⟩ := h
      refine vv_iast hC hR hK 41 lm_41 hin dX4_layLinks_21 ?_
      refine vv_st (fun y e => ?_)
      obtain ⟨μ3, _⟩ := y
      have eμ3 := congrArg Prod.fst e
      clear e
      replace h := h μ3 eμ3
      refine vv_iinc (pl := 2) (v := v2 + 1) (lv' := [(2, .int (v2 + 1)), (0, .ref (ad 0)), (1, .int v1)]) hC dX4_layLinks_22 rfl rfl (by decide) rfl ?_
      refine vv_goto (tgt := 2) hC dX4_layLinks_25 rfl ?_
      refine vv_lv [1, 2, 0] rfl ?_
      exact h2 _ _ _ h
  unfold w_X4_layLinks at h
  refine vv_iconst hC dX4_layLinks_0 ic_0 ?_
  refine vv_istore_n (lv' := [(2, .int 0), (0, .ref (ad 0)), (1, .int v1)]) hC dX4_layLinks_1 rfl (by decide) rfl ?_
  refine vv_lv [1, 2, 0] rfl ?_
  exact L2  _ _ _ h
def w_X4_backward (v1 : Int32) (v2 : Int32) (μ : WS) (Q : Int32 → WS → Prop) : Prop := (w_X4_isIn v1 0 7 μ (fun r2 μ1 => ((¬ r2 = 0) → (w_X4_layLinks v2 μ1 (fun r5 μ4 => ((¬ r5 = 0) → (vp_in v1 8 ∧ ((¬ μ4.1 41 v1.toNatClampNeg = μ4.1 41 0) → Q (-1) μ4) ∧ ((μ4.1 41 v1.toNatClampNeg = μ4.1 41 0) → (vp_in v1 8 ∧ Q ((μ4.1 40 v1.toNatClampNeg) ^^^ (μ4.1 40 0)) μ4)))) ∧ ((r5 = 0) → Q (-2) μ4)))) ∧ ((r2 = 0) → Q (-1) μ1)))
abbrev rm_X4_backward : Room := { frames := 2, cells := 0, slots := 0, locals := 50 }
theorem mf_X4_backward : MFact yX4_backward 2 rm_X4_backward := ⟨by decide +kernel, rfl, rfl⟩
set_option maxHeartbeats 4000000 in
theorem met_X4_backward (l : Launch) (D : va_G) (ac : Nat → ClassId) (ad : Nat → Nat) (Ex : Heap → Prop) (hLay : LayOk ad knM) (hEx : ExOk ad knM Ex) (v1 : Int32) (v2 : Int32) (μ : WS) (Q : Int32 → WS → Prop) (h : w_X4_backward v1 v2 μ Q) : CMet l yX4_backward cX4_backward 3 (some .int) rm_X4_backward D ac ad knM Ex [.ref (ad 0), .int v1, .int v2] μ (qI Q) := by
  refine vv_met (lv := [(0, .ref (ad 0)), (1, .int v1), (2, .int v2)]) (by decide) hLay hEx (Nat.le_of_ble_eq_true rfl) rfl ⟨rfl, rfl⟩ (fun C hC hK hRm hLl hR hM => ?_)
  subst hLl
  have hRo : RoomOk (HPW D ac ad knM Ex (vS C)) (vR C) := HPW.room
  unfold w_X4_backward at h
  refine vv_iload_n hC dX4_backward_0 rfl 1 rfl ?_
  refine vv_iconst hC dX4_backward_1 ic_0 ?_
  refine vv_bipush hC dX4_backward_2 bp_7 ?_
  refine vv_callSi hC hR hK hRo hRm [.int v1, .int 0, .int 7] [] (met_X4_isIn (vL C) D ac ad Ex hLay hEx v1 0 7 μ _ h) gw4_345 mf_X4_isIn rfl rfl rfl dX4_backward_4 (fun r2 μ1 h => ?_)
  refine vv_if_ne (tgt := 12) hC dX4_backward_7 rfl (fun c3 => ?_) (fun c3 => ?_)
  · replace h := h.1 c3
    refine vv_aload_n hC dX4_backward_12 rfl 0 rfl ?_
    refine vv_iload_n hC dX4_backward_13 rfl 2 rfl ?_
    refine vv_callVi hC hR hK hRo hRm [.int v2] [] (met_X4_layLinks (vL C) D ac ad Ex hLay hEx v2 μ1 _ h) gw4_445 mf_X4_layLinks rfl lm_0 rfl rfl rfl rfl dX4_backward_14 (fun r5 μ4 h => ?_)
    refine vv_if_ne (tgt := 23) hC dX4_backward_17 rfl (fun c6 => ?_) (fun c6 => ?_)
    · replace h := h.1 c6
      refine vv_aload_n hC dX4_backward_23 rfl 0 rfl ?_
      refine vv_getf hC hR hK fa4_138 0 lm_0 (fm_66 ad _ _ _) dX4_backward_24 ?_
      refine vv_iload_n hC dX4_backward_27 rfl 1 rfl ?_
      obtain ⟨hin, h⟩ := h
      refine vv_iald hC hR hK 41 lm_41 hin dX4_backward_28 ?_
      refine vv_aload_n hC dX4_backward_29 rfl 0 rfl ?_
      refine vv_getf hC hR hK fa4_138 0 lm_0 (fm_66 ad _ _ _) dX4_backward_30 ?_
      refine vv_iconst hC dX4_backward_33 ic_0 ?_
      refine vv_iald hC hR hK 41 lm_41 vin_0_8 dX4_backward_34 ?_
      refine vv_icmp_ne (tgt := 54) hC dX4_backward_35 rfl (fun c7 => ?_) (fun c7 => ?_)
      · replace h := h.1 c7
        refine vv_iconst hC dX4_backward_54 ic_m1 ?_
        exact vv_iret hC hM dX4_backward_55 h
      · replace h := h.2 c7
        refine vv_aload_n hC dX4_backward_38 rfl 0 rfl ?_
        refine vv_getf hC hR hK fa4_135 0 lm_0 (fm_65 ad _ _ _) dX4_backward_39 ?_
        refine vv_iload_n hC dX4_backward_42 rfl 1 rfl ?_
        obtain ⟨hin, h⟩ := h
        refine vv_iald hC hR hK 40 lm_40 hin dX4_backward_43 ?_
        refine vv_aload_n hC dX4_backward_44 rfl 0 rfl ?_
        refine vv_getf hC hR hK fa4_135 0 lm_0 (fm_65 ad _ _ _) dX4_backward_45 ?_
        refine vv_iconst hC dX4_backward_48 ic_0 ?_
        refine vv_iald hC hR hK 40 lm_40 vin_0_8 dX4_backward_49 ?_
        refine vv_ixor hC dX4_backward_50 ?_
        refine vv_goto (tgt := 55) hC dX4_backward_51 rfl ?_
        exact vv_iret hC hM dX4_backward_55 h
    · replace h := h.2 c6
      refine vv_bipush hC dX4_backward_20 bp_m2 ?_
      exact vv_iret hC hM dX4_backward_22 h
  · replace h := h.2 c3
    refine vv_iconst hC dX4_backward_10 ic_m1 ?_
    exact vv_iret hC hM dX4_backward_11 h
def w_X4_image_13b (P13 : Int32 → Int32 → WS → Prop) (v1 : Int32) (v2 : Int32) (μ : WS) (Q : Int32 → WS → Prop) : Prop := ((221 ≤ v2) → (vp_in v1 3 ∧ (∀ μ5 : WS, μ5 = wset μ 43 v1.toNatClampNeg (vp_nar .boolean 1) → Q (μ5.1 21 216) μ5))) ∧ ((¬ 221 ≤ v2) → (vp_in v2 221 ∧ (vp_in ((221 * v1) + v2) 663 ∧ (∀ μ6 : WS, μ6 = wset μ 42 ((221 * v1) + v2).toNatClampNeg (μ.1 21 v2.toNatClampNeg) → P13 v1 (v2 + 1) μ6))))
def w_X4_image_13 (v1 : Int32) (v2 : Int32) (μ : WS) (Q : Int32 → WS → Prop) : Prop := ∀ P13 : Int32 → Int32 → WS → Prop, (∀ (v1 : Int32) (v2 : Int32) (μ : WS), w_X4_image_13b  P13 v1 v2 μ Q → P13 v1 v2 μ) → P13 v1 v2 μ
def w_X4_image (v1 : Int32) (μ : WS) (Q : Int32 → WS → Prop) : Prop := (w_X4_isIn v1 0 2 μ (fun r2 μ1 => ((¬ r2 = 0) → w_X4_image_13 v1 0 μ1 Q) ∧ ((r2 = 0) → Q (-1) μ1)))
abbrev rm_X4_image : Room := { frames := 1, cells := 0, slots := 0, locals := 22 }
theorem mf_X4_image : MFact yX4_image 1 rm_X4_image := ⟨by decide +kernel, rfl, rfl⟩
set_option maxHeartbeats 4000000 in
theorem met_X4_image (l : Launch) (D : va_G) (ac : Nat → ClassId) (ad : Nat → Nat) (Ex : Heap → Prop) (hLay : LayOk ad knM) (hEx : ExOk ad knM Ex) (v1 : Int32) (μ : WS) (Q : Int32 → WS → Prop) (h : w_X4_image v1 μ Q) : CMet l yX4_image cX4_image 3 (some .int) rm_X4_image D ac ad knM Ex [.ref (ad 0), .int v1] μ (qI Q) := by
  refine vv_met (lv := [(0, .ref (ad 0)), (1, .int v1)]) (by decide) hLay hEx (Nat.le_of_ble_eq_true rfl) rfl ⟨rfl, rfl⟩ (fun C hC hK hRm hLl hR hM => ?_)
  subst hLl
  have hRo : RoomOk (HPW D ac ad knM Ex (vS C)) (vR C) := HPW.room
  have L13 : ∀ (v1 : Int32) (v2 : Int32) (μ : WS), w_X4_image_13  v1 v2 μ Q → VV C 3 (HPW D ac ad knM Ex (vS C)) (vQ C (QcW D ac ad knM (qI Q)) 0 0 (inLay ad knM)) (μ, ()) 13 [(0, .ref (ad 0)), (1, .int v1), (2, .int v2)] [] := by
    intro  v1 v2 μ h
    refine h (fun v1 v2 μ => VV C 3 (HPW D ac ad knM Ex (vS C)) (vQ C (QcW D ac ad knM (qI Q)) 0 0 (inLay ad knM)) (μ, ()) 13 [(0, .ref (ad 0)), (1, .int v1), (2, .int v2)] []) ?_
    clear h; intro v1 v2 μ h
    have h13 : ∀ (v1 : Int32) (v2 : Int32) (μ : WS), (fun v1 v2 (μ : WS) => VV C 3 (HPW D ac ad knM Ex (vS C)) (vQ C (QcW D ac ad knM (qI Q)) 0 0 (inLay ad knM)) (μ, ()) 13 [(0, .ref (ad 0)), (1, .int v1), (2, .int v2)] []) v1 v2 μ → VV C 3 (HPW D ac ad knM Ex (vS C)) (vQ C (QcW D ac ad knM (qI Q)) 0 0 (inLay ad knM)) (μ, ()) 13 [(0, .ref (ad 0)), (1, .int v1), (2, .int v2)] [] := fun _ _ _ h => h
    unfold w_X4_image_13b at h
    refine vv_iload_n hC dX4_image_13 rfl 2 rfl ?_
    refine vv_sipush hC dX4_image_14 sp_221 ?_
    refine vv_icmp_ge (tgt := 44) hC dX4_image_17 rfl (fun c4 => ?_) (fun c4 => ?_)
    · replace h := h.1 c4
      refine vv_aload_n hC dX4_image_44 rfl 0 rfl ?_
      refine vv_getf hC hR hK fa4_144 0 lm_0 (fm_68 ad _ _ _) dX4_image_45 ?_
      refine vv_iload_n hC dX4_image_48 rfl 1 rfl ?_
      refine vv_iconst hC dX4_image_49 ic_1 ?_
      obtain ⟨hin, h⟩ := h
      refine vv_zast hC hR hK 43 lm_43 hin dX4_image_50 ?_
      refine vv_st (fun y e => ?_)
      obtain ⟨μ5, _⟩ := y
      have eμ5 := congrArg Prod.fst e
      clear e
      replace h := h μ5 eμ5
      refine vv_aload_n hC dX4_image_51 rfl 0 rfl ?_
      refine vv_getf hC hR hK fa4_77 0 lm_0 (fm_40 ad _ _ _) dX4_image_52 ?_
      refine vv_sipush hC dX4_image_55 sp_216 ?_
      refine vv_iald hC hR hK 21 lm_21 vin_216_221 dX4_image_58 ?_
      exact vv_iret hC hM dX4_image_59 h
    · replace h := h.2 c4
      refine vv_aload_n hC dX4_image_20 rfl 0 rfl ?_
      refine vv_getf hC hR hK fa4_141 0 lm_0 (fm_67 ad _ _ _) dX4_image_21 ?_
      refine vv_sipush hC dX4_image_24 sp_221 ?_
      refine vv_iload_n hC dX4_image_27 rfl 1 rfl ?_
      refine vv_imul hC dX4_image_28 ?_
      refine vv_iload_n hC dX4_image_29 rfl 2 rfl ?_
      refine vv_iadd hC dX4_image_30 ?_
      refine vv_aload_n hC dX4_image_31 rfl 0 rfl ?_
      refine vv_getf hC hR hK fa4_77 0 lm_0 (fm_40 ad _ _ _) dX4_image_32 ?_
      refine vv_iload_n hC dX4_image_35 rfl 2 rfl ?_
      obtain ⟨hin, h⟩ := h
      refine vv_iald hC hR hK 21 lm_21 hin dX4_image_36 ?_
      obtain ⟨hin, h⟩ := h
      refine vv_iast hC hR hK 42 lm_42 hin dX4_image_37 ?_
      refine vv_st (fun y e => ?_)
      obtain ⟨μ6, _⟩ := y
      have eμ6 := congrArg Prod.fst e
      clear e
      replace h := h μ6 eμ6
      refine vv_iinc (pl := 2) (v := v2 + 1) (lv' := [(2, .int (v2 + 1)), (0, .ref (ad 0)), (1, .int v1)]) hC dX4_image_38 rfl rfl (by decide) rfl ?_
      refine vv_goto (tgt := 13) hC dX4_image_41 rfl ?_
      refine vv_lv [1, 2, 0] rfl ?_
      exact h13 _ _ _ h
  unfold w_X4_image at h
  refine vv_iload_n hC dX4_image_0 rfl 1 rfl ?_
  refine vv_iconst hC dX4_image_1 ic_0 ?_
  refine vv_iconst hC dX4_image_2 ic_2 ?_
  refine vv_callSi hC hR hK hRo hRm [.int v1, .int 0, .int 2] [] (met_X4_isIn (vL C) D ac ad Ex hLay hEx v1 0 2 μ _ h) gw4_345 mf_X4_isIn rfl rfl rfl dX4_image_3 (fun r2 μ1 h => ?_)
  refine vv_if_ne (tgt := 11) hC dX4_image_6 rfl (fun c3 => ?_) (fun c3 => ?_)
  · replace h := h.1 c3
    refine vv_iconst hC dX4_image_11 ic_0 ?_
    refine vv_istore_n (lv' := [(2, .int 0), (0, .ref (ad 0)), (1, .int v1)]) hC dX4_image_12 rfl (by decide) rfl ?_
    refine vv_lv [1, 2, 0] rfl ?_
    exact L13  _ _ _ h
  · replace h := h.2 c3
    refine vv_iconst hC dX4_image_9 ic_m1 ?_
    exact vv_iret hC hM dX4_image_10 h
def w_X4_back_22b (P22 : Int32 → Int32 → WS → Prop) (v1 : Int32) (v2 : Int32) (μ : WS) (Q : Int32 → WS → Prop) : Prop := ((221 ≤ v2) → (∀ μ6 : WS, μ6 = wset μ 0 42 0 → (∀ μ7 : WS, μ7 = wset μ6 0 43 0 → Q (μ7.1 21 216) μ7))) ∧ ((¬ 221 ≤ v2) → (vp_in ((221 * v1) + v2) 663 ∧ (vp_in v2 221 ∧ (∀ μ8 : WS, μ8 = wset μ 21 v2.toNatClampNeg (μ.1 42 ((221 * v1) + v2).toNatClampNeg) → P22 v1 (v2 + 1) μ8))))
def w_X4_back_22 (v1 : Int32) (v2 : Int32) (μ : WS) (Q : Int32 → WS → Prop) : Prop := ∀ P22 : Int32 → Int32 → WS → Prop, (∀ (v1 : Int32) (v2 : Int32) (μ : WS), w_X4_back_22b  P22 v1 v2 μ Q → P22 v1 v2 μ) → P22 v1 v2 μ
def w_X4_back (v1 : Int32) (μ : WS) (Q : Int32 → WS → Prop) : Prop := (w_X4_isIn v1 0 2 μ (fun r2 μ1 => ((r2 = 0) → Q (-1) μ1) ∧ ((¬ r2 = 0) → (vp_in v1 3 ∧ ((¬ μ1.1 43 v1.toNatClampNeg = 0) → w_X4_back_22 v1 0 μ1 Q) ∧ ((μ1.1 43 v1.toNatClampNeg = 0) → Q (-1) μ1)))))
abbrev rm_X4_back : Room := { frames := 1, cells := 0, slots := 0, locals := 22 }
theorem mf_X4_back : MFact yX4_back 1 rm_X4_back := ⟨by decide +kernel, rfl, rfl⟩
set_option maxHeartbeats 4000000 in
theorem met_X4_back (l : Launch) (D : va_G) (ac : Nat → ClassId) (ad : Nat → Nat) (Ex : Heap → Prop) (hLay : LayOk ad knM) (hEx : ExOk ad knM Ex) (v1 : Int32) (μ : WS) (Q : Int32 → WS → Prop) (h : w_X4_back v1 μ Q) : CMet l yX4_back cX4_back 3 (some .int) rm_X4_back D ac ad knM Ex [.ref (ad 0), .int v1] μ (qI Q) := by
  refine vv_met (lv := [(0, .ref (ad 0)), (1, .int v1)]) (by decide) hLay hEx (Nat.le_of_ble_eq_true rfl) rfl ⟨rfl, rfl⟩ (fun C hC hK hRm hLl hR hM => ?_)
  subst hLl
  have hRo : RoomOk (HPW D ac ad knM Ex (vS C)) (vR C) := HPW.room
  have L22 : ∀ (v1 : Int32) (v2 : Int32) (μ : WS), w_X4_back_22  v1 v2 μ Q → VV C 3 (HPW D ac ad knM Ex (vS C)) (vQ C (QcW D ac ad knM (qI Q)) 0 0 (inLay ad knM)) (μ, ()) 22 [(0, .ref (ad 0)), (1, .int v1), (2, .int v2)] [] := by
    intro  v1 v2 μ h
    refine h (fun v1 v2 μ => VV C 3 (HPW D ac ad knM Ex (vS C)) (vQ C (QcW D ac ad knM (qI Q)) 0 0 (inLay ad knM)) (μ, ()) 22 [(0, .ref (ad 0)), (1, .int v1), (2, .int v2)] []) ?_
    clear h; intro v1 v2 μ h
    have h22 : ∀ (v1 : Int32) (v2 : Int32) (μ : WS), (fun v1 v2 (μ : WS) => VV C 3 (HPW D ac ad knM Ex (vS C)) (vQ C (QcW D ac ad knM (qI Q)) 0 0 (inLay ad knM)) (μ, ()) 22 [(0, .ref (ad 0)), (1, .int v1), (2, .int v2)] []) v1 v2 μ → VV C 3 (HPW D ac ad knM Ex (vS C)) (vQ C (QcW D ac ad knM (qI Q)) 0 0 (inLay ad knM)) (μ, ()) 22 [(0, .ref (ad 0)), (1, .int v1), (2, .int v2)] [] := fun _ _ _ h => h
    unfold w_X4_back_22b at h
    refine vv_iload_n hC dX4_back_22 rfl 2 rfl ?_
    refine vv_sipush hC dX4_back_23 sp_221 ?_
    refine vv_icmp_ge (tgt := 53) hC dX4_back_26 rfl (fun c5 => ?_) (fun c5 => ?_)
    · replace h := h.1 c5
      refine vv_aload_n hC dX4_back_53 rfl 0 rfl ?_
      refine vv_iconst hC dX4_back_54 ic_0 ?_
      refine vv_puti hC hR hK fa4_371 0 lm_0 fn_42 rfl rfl dX4_back_55 ?_
      refine vv_st (fun y e => ?_)
      obtain ⟨μ6, _⟩ := y
      have eμ6 := congrArg Prod.fst e
      clear e
      replace h := h μ6 eμ6
      refine vv_aload_n hC dX4_back_58 rfl 0 rfl ?_
      refine vv_iconst hC dX4_back_59 ic_0 ?_
      refine vv_puti hC hR hK fa4_374 0 lm_0 fn_43 rfl rfl dX4_back_60 ?_
      refine vv_st (fun y e => ?_)
      obtain ⟨μ7, _⟩ := y
      have eμ7 := congrArg Prod.fst e
      clear e
      replace h := h μ7 eμ7
      refine vv_aload_n hC dX4_back_63 rfl 0 rfl ?_
      refine vv_getf hC hR hK fa4_77 0 lm_0 (fm_40 ad _ _ _) dX4_back_64 ?_
      refine vv_sipush hC dX4_back_67 sp_216 ?_
      refine vv_iald hC hR hK 21 lm_21 vin_216_221 dX4_back_70 ?_
      exact vv_iret hC hM dX4_back_71 h
    · replace h := h.2 c5
      refine vv_aload_n hC dX4_back_29 rfl 0 rfl ?_
      refine vv_getf hC hR hK fa4_77 0 lm_0 (fm_40 ad _ _ _) dX4_back_30 ?_
      refine vv_iload_n hC dX4_back_33 rfl 2 rfl ?_
      refine vv_aload_n hC dX4_back_34 rfl 0 rfl ?_
      refine vv_getf hC hR hK fa4_141 0 lm_0 (fm_67 ad _ _ _) dX4_back_35 ?_
      refine vv_sipush hC dX4_back_38 sp_221 ?_
      refine vv_iload_n hC dX4_back_41 rfl 1 rfl ?_
      refine vv_imul hC dX4_back_42 ?_
      refine vv_iload_n hC dX4_back_43 rfl 2 rfl ?_
      refine vv_iadd hC dX4_back_44 ?_
      obtain ⟨hin, h⟩ := h
      refine vv_iald hC hR hK 42 lm_42 hin dX4_back_45 ?_
      obtain ⟨hin, h⟩ := h
      refine vv_iast hC hR hK 21 lm_21 hin dX4_back_46 ?_
      refine vv_st (fun y e => ?_)
      obtain ⟨μ8, _⟩ := y
      have eμ8 := congrArg Prod.fst e
      clear e
      replace h := h μ8 eμ8
      refine vv_iinc (pl := 2) (v := v2 + 1) (lv' := [(2, .int (v2 + 1)), (0, .ref (ad 0)), (1, .int v1)]) hC dX4_back_47 rfl rfl (by decide) rfl ?_
      refine vv_goto (tgt := 22) hC dX4_back_50 rfl ?_
      refine vv_lv [1, 2, 0] rfl ?_
      exact h22 _ _ _ h
  unfold w_X4_back at h
  refine vv_iload_n hC dX4_back_0 rfl 1 rfl ?_
  refine vv_iconst hC dX4_back_1 ic_0 ?_
  refine vv_iconst hC dX4_back_2 ic_2 ?_
  refine vv_callSi hC hR hK hRo hRm [.int v1, .int 0, .int 2] [] (met_X4_isIn (vL C) D ac ad Ex hLay hEx v1 0 2 μ _ h) gw4_345 mf_X4_isIn rfl rfl rfl dX4_back_3 (fun r2 μ1 h => ?_)
  refine vv_if_eq (tgt := 18) hC dX4_back_6 rfl (fun c3 => ?_) (fun c3 => ?_)
  · replace h := h.1 c3
    refine vv_iconst hC dX4_back_18 ic_m1 ?_
    exact vv_iret hC hM dX4_back_19 h
  · replace h := h.2 c3
    refine vv_aload_n hC dX4_back_9 rfl 0 rfl ?_
    refine vv_getf hC hR hK fa4_144 0 lm_0 (fm_68 ad _ _ _) dX4_back_10 ?_
    refine vv_iload_n hC dX4_back_13 rfl 1 rfl ?_
    obtain ⟨hin, h⟩ := h
    refine vv_zald hC hR hK 43 lm_43 hin dX4_back_14 ?_
    refine vv_if_ne (tgt := 20) hC dX4_back_15 rfl (fun c4 => ?_) (fun c4 => ?_)
    · replace h := h.1 c4
      refine vv_iconst hC dX4_back_20 ic_0 ?_
      refine vv_istore_n (lv' := [(2, .int 0), (0, .ref (ad 0)), (1, .int v1)]) hC dX4_back_21 rfl (by decide) rfl ?_
      refine vv_lv [1, 2, 0] rfl ?_
      exact L22  _ _ _ h
    · replace h := h.2 c4
      refine vv_iconst hC dX4_back_18 ic_m1 ?_
      exact vv_iret hC hM dX4_back_19 h
def w_X4_about (v1 : Int32) (μ : WS) (Q : Int32 → WS → Prop) : Prop := (v1 = 0 → (vp_in (μ.1 0 29) 2 ∧ Q (μ.1 5 (μ.1 0 29).toNatClampNeg) μ)) ∧ (v1 = 1 → (w_X4_width μ (fun r3 μ2 => Q r3 μ2))) ∧ (v1 = 2 → Q (μ.1 21 216) μ) ∧ (v1 = 3 → Q (μ.1 21 217) μ) ∧ (v1 = 4 → Q (μ.1 21 218) μ) ∧ (v1 = 5 → Q (μ.1 21 219) μ) ∧ (v1 = 6 → Q (μ.1 21 220) μ) ∧ (v1 = 7 → Q (μ.1 0 42) μ) ∧ (v1 = 8 → Q (μ.1 0 43) μ) ∧ (v1 = 9 → Q (μ.1 0 58) μ) ∧ (v1 = 10 → Q (μ.1 0 59) μ) ∧ (v1 = 11 → Q (μ.1 0 2) μ) ∧ (v1 = 12 → (vp_in (μ.1 0 29) 2 ∧ Q (μ.1 6 (μ.1 0 29).toNatClampNeg) μ)) ∧ (v1 = 13 → Q (μ.1 0 48) μ) ∧ ((¬ v1 = 0) → (¬ v1 = 1) → (¬ v1 = 2) → (¬ v1 = 3) → (¬ v1 = 4) → (¬ v1 = 5) → (¬ v1 = 6) → (¬ v1 = 7) → (¬ v1 = 8) → (¬ v1 = 9) → (¬ v1 = 10) → (¬ v1 = 11) → (¬ v1 = 12) → (¬ v1 = 13) → Q (-1) μ)
abbrev rm_X4_about : Room := { frames := 1, cells := 0, slots := 0, locals := 20 }
theorem mf_X4_about : MFact yX4_about 1 rm_X4_about := ⟨by decide +kernel, rfl, rfl⟩
set_option maxHeartbeats 4000000 in
theorem met_X4_about (l : Launch) (D : va_G) (ac : Nat → ClassId) (ad : Nat → Nat) (Ex : Heap → Prop) (hLay : LayOk ad knM) (hEx : ExOk ad knM Ex) (v1 : Int32) (μ : WS) (Q : Int32 → WS → Prop) (h : w_X4_about v1 μ Q) : CMet l yX4_about cX4_about 2 (some .int) rm_X4_about D ac ad knM Ex [.ref (ad 0), .int v1] μ (qI Q) := by
  refine vv_met (lv := [(0, .ref (ad 0)), (1, .int v1)]) (by decide) hLay hEx (Nat.le_of_ble_eq_true rfl) rfl ⟨rfl, rfl⟩ (fun C hC hK hRm hLl hR hM => ?_)
  subst hLl
  have hRo : RoomOk (HPW D ac ad knM Ex (vS C)) (vR C) := HPW.room
  unfold w_X4_about at h
  refine vv_iload_n hC dX4_about_0 rfl 1 rfl ?_
  by_cases c1_0 : v1 = 0
  · replace h := h.1 c1_0
    rw [c1_0]
    refine vv_tableIn (tgt := 72) hC dX4_about_1 (by decide) (by decide) rfl rfl ?_
    refine vv_aload_n hC dX4_about_72 rfl 0 rfl ?_
    refine vv_getf hC hR hK fa4_27 0 lm_0 (fm_13 ad _ _ _) dX4_about_73 ?_
    refine vv_aload_n hC dX4_about_76 rfl 0 rfl ?_
    refine vv_getf hC hR hK fa4_250 0 lm_0 (fm_29 ad _ _ _) dX4_about_77 ?_
    obtain ⟨hin, h⟩ := h
    refine vv_iald hC hR hK 5 lm_5 hin dX4_about_80 ?_
    exact vv_iret hC hM dX4_about_81 h
  · replace h := h.2
    by_cases c1_1 : v1 = 1
    · replace h := h.1 c1_1
      rw [c1_1]
      refine vv_tableIn (tgt := 82) hC dX4_about_1 (by decide) (by decide) rfl rfl ?_
      refine vv_aload_n hC dX4_about_82 rfl 0 rfl ?_
      refine vv_callVi hC hR hK hRo hRm [] [] (met_X4_width (vL C) D ac ad Ex hLay hEx  μ _ h) gw4_342 mf_X4_width rfl lm_0 rfl rfl rfl rfl dX4_about_83 (fun r3 μ2 h => ?_)
      exact vv_iret hC hM dX4_about_86 h
    · replace h := h.2
      by_cases c1_2 : v1 = 2
      · replace h := h.1 c1_2
        rw [c1_2]
        refine vv_tableIn (tgt := 87) hC dX4_about_1 (by decide) (by decide) rfl rfl ?_
        refine vv_aload_n hC dX4_about_87 rfl 0 rfl ?_
        refine vv_getf hC hR hK fa4_77 0 lm_0 (fm_40 ad _ _ _) dX4_about_88 ?_
        refine vv_sipush hC dX4_about_91 sp_216 ?_
        refine vv_iald hC hR hK 21 lm_21 vin_216_221 dX4_about_94 ?_
        exact vv_iret hC hM dX4_about_95 h
      · replace h := h.2
        by_cases c1_3 : v1 = 3
        · replace h := h.1 c1_3
          rw [c1_3]
          refine vv_tableIn (tgt := 96) hC dX4_about_1 (by decide) (by decide) rfl rfl ?_
          refine vv_aload_n hC dX4_about_96 rfl 0 rfl ?_
          refine vv_getf hC hR hK fa4_77 0 lm_0 (fm_40 ad _ _ _) dX4_about_97 ?_
          refine vv_sipush hC dX4_about_100 sp_217 ?_
          refine vv_iald hC hR hK 21 lm_21 vin_217_221 dX4_about_103 ?_
          exact vv_iret hC hM dX4_about_104 h
        · replace h := h.2
          by_cases c1_4 : v1 = 4
          · replace h := h.1 c1_4
            rw [c1_4]
            refine vv_tableIn (tgt := 105) hC dX4_about_1 (by decide) (by decide) rfl rfl ?_
            refine vv_aload_n hC dX4_about_105 rfl 0 rfl ?_
            refine vv_getf hC hR hK fa4_77 0 lm_0 (fm_40 ad _ _ _) dX4_about_106 ?_
            refine vv_sipush hC dX4_about_109 sp_218 ?_
            refine vv_iald hC hR hK 21 lm_21 vin_218_221 dX4_about_112 ?_
            exact vv_iret hC hM dX4_about_113 h
          · replace h := h.2
            by_cases c1_5 : v1 = 5
            · replace h := h.1 c1_5
              rw [c1_5]
              refine vv_tableIn (tgt := 114) hC dX4_about_1 (by decide) (by decide) rfl rfl ?_
              refine vv_aload_n hC dX4_about_114 rfl 0 rfl ?_
              refine vv_getf hC hR hK fa4_77 0 lm_0 (fm_40 ad _ _ _) dX4_about_115 ?_
              refine vv_sipush hC dX4_about_118 sp_219 ?_
              refine vv_iald hC hR hK 21 lm_21 vin_219_221 dX4_about_121 ?_
              exact vv_iret hC hM dX4_about_122 h
            · replace h := h.2
              by_cases c1_6 : v1 = 6
              · replace h := h.1 c1_6
                rw [c1_6]
                refine vv_tableIn (tgt := 123) hC dX4_about_1 (by decide) (by decide) rfl rfl ?_
                refine vv_aload_n hC dX4_about_123 rfl 0 rfl ?_
                refine vv_getf hC hR hK fa4_77 0 lm_0 (fm_40 ad _ _ _) dX4_about_124 ?_
                refine vv_sipush hC dX4_about_127 sp_220 ?_
                refine vv_iald hC hR hK 21 lm_21 vin_220_221 dX4_about_130 ?_
                exact vv_iret hC hM dX4_about_131 h
              · replace h := h.2
                by_cases c1_7 : v1 = 7
                · replace h := h.1 c1_7
                  rw [c1_7]
                  refine vv_tableIn (tgt := 132) hC dX4_about_1 (by decide) (by decide) rfl rfl ?_
                  refine vv_aload_n hC dX4_about_132 rfl 0 rfl ?_
                  refine vv_getf hC hR hK fa4_371 0 lm_0 (fm_42 ad _ _ _) dX4_about_133 ?_
                  exact vv_iret hC hM dX4_about_136 h
                · replace h := h.2
                  by_cases c1_8 : v1 = 8
                  · replace h := h.1 c1_8
                    rw [c1_8]
                    refine vv_tableIn (tgt := 137) hC dX4_about_1 (by decide) (by decide) rfl rfl ?_
                    refine vv_aload_n hC dX4_about_137 rfl 0 rfl ?_
                    refine vv_getf hC hR hK fa4_374 0 lm_0 (fm_43 ad _ _ _) dX4_about_138 ?_
                    exact vv_iret hC hM dX4_about_141 h
                  · replace h := h.2
                    by_cases c1_9 : v1 = 9
                    · replace h := h.1 c1_9
                      rw [c1_9]
                      refine vv_tableIn (tgt := 142) hC dX4_about_1 (by decide) (by decide) rfl rfl ?_
                      refine vv_aload_n hC dX4_about_142 rfl 0 rfl ?_
                      refine vv_getf hC hR hK fa4_377 0 lm_0 (fm_58 ad _ _ _) dX4_about_143 ?_
                      exact vv_iret hC hM dX4_about_146 h
                    · replace h := h.2
                      by_cases c1_10 : v1 = 10
                      · replace h := h.1 c1_10
                        rw [c1_10]
                        refine vv_tableIn (tgt := 147) hC dX4_about_1 (by decide) (by decide) rfl rfl ?_
                        refine vv_aload_n hC dX4_about_147 rfl 0 rfl ?_
                        refine vv_getf hC hR hK fa4_420 0 lm_0 (fm_59 ad _ _ _) dX4_about_148 ?_
                        exact vv_iret hC hM dX4_about_151 h
                      · replace h := h.2
                        by_cases c1_11 : v1 = 11
                        · replace h := h.1 c1_11
                          rw [c1_11]
                          refine vv_tableIn (tgt := 152) hC dX4_about_1 (by decide) (by decide) rfl rfl ?_
                          refine vv_aload_n hC dX4_about_152 rfl 0 rfl ?_
                          refine vv_getf hC hR hK fa4_247 0 lm_0 (fm_2 ad _ _ _) dX4_about_153 ?_
                          exact vv_iret hC hM dX4_about_156 h
                        · replace h := h.2
                          by_cases c1_12 : v1 = 12
                          · replace h := h.1 c1_12
                            rw [c1_12]
                            refine vv_tableIn (tgt := 157) hC dX4_about_1 (by decide) (by decide) rfl rfl ?_
                            refine vv_aload_n hC dX4_about_157 rfl 0 rfl ?_
                            refine vv_getf hC hR hK fa4_30 0 lm_0 (fm_14 ad _ _ _) dX4_about_158 ?_
                            refine vv_aload_n hC dX4_about_161 rfl 0 rfl ?_
                            refine vv_getf hC hR hK fa4_250 0 lm_0 (fm_29 ad _ _ _) dX4_about_162 ?_
                            obtain ⟨hin, h⟩ := h
                            refine vv_iald hC hR hK 6 lm_6 hin dX4_about_165 ?_
                            exact vv_iret hC hM dX4_about_166 h
                          · replace h := h.2
                            by_cases c1_13 : v1 = 13
                            · replace h := h.1 c1_13
                              rw [c1_13]
                              refine vv_tableIn (tgt := 167) hC dX4_about_1 (by decide) (by decide) rfl rfl ?_
                              refine vv_aload_n hC dX4_about_167 rfl 0 rfl ?_
                              refine vv_getf hC hR hK fa4_380 0 lm_0 (fm_48 ad _ _ _) dX4_about_168 ?_
                              exact vv_iret hC hM dX4_about_171 h
                            · replace h := h.2
                              replace h := h c1_0 c1_1 c1_2 c1_3 c1_4 c1_5 c1_6 c1_7 c1_8 c1_9 c1_10 c1_11 c1_12 c1_13
                              by_cases c1_lo : v1.toInt < 0 ∨ 13 < v1.toInt
                              · refine vv_tableOut (tgt := 172) hC dX4_about_1 c1_lo rfl ?_
                                refine vv_iconst hC dX4_about_172 ic_m1 ?_
                                exact vv_iret hC hM dX4_about_173 h
                              · obtain ⟨nn, hn1, hn2⟩ := sw_in (fun q => c1_lo (Or.inl q)) (fun q => c1_lo (Or.inr q))
                                match nn, hn1, hn2 with
                                | 0, _, hn2 => exact absurd (sw_eq (hn2.trans (by decide))) c1_0
                                | 1, _, hn2 => exact absurd (sw_eq (hn2.trans (by decide))) c1_1
                                | 2, _, hn2 => exact absurd (sw_eq (hn2.trans (by decide))) c1_2
                                | 3, _, hn2 => exact absurd (sw_eq (hn2.trans (by decide))) c1_3
                                | 4, _, hn2 => exact absurd (sw_eq (hn2.trans (by decide))) c1_4
                                | 5, _, hn2 => exact absurd (sw_eq (hn2.trans (by decide))) c1_5
                                | 6, _, hn2 => exact absurd (sw_eq (hn2.trans (by decide))) c1_6
                                | 7, _, hn2 => exact absurd (sw_eq (hn2.trans (by decide))) c1_7
                                | 8, _, hn2 => exact absurd (sw_eq (hn2.trans (by decide))) c1_8
                                | 9, _, hn2 => exact absurd (sw_eq (hn2.trans (by decide))) c1_9
                                | 10, _, hn2 => exact absurd (sw_eq (hn2.trans (by decide))) c1_10
                                | 11, _, hn2 => exact absurd (sw_eq (hn2.trans (by decide))) c1_11
                                | 12, _, hn2 => exact absurd (sw_eq (hn2.trans (by decide))) c1_12
                                | 13, _, hn2 => exact absurd (sw_eq (hn2.trans (by decide))) c1_13
                                | q + 14, hn1, _ => exact absurd hn1 (by omega)
def w_X4_feed_71 (P18 : Int32 → Int32 → Int32 → Int32 → Int32 → Int32 → WS → Prop) (s0 : Int32) (v1 : Int32) (v2 : Int32) (v3 : Int32) (v4 : Int32) (v5 : Int32) (v6 : Int32) (μ : WS) (Q : Int32 → WS → Prop) : Prop := (vp_in ((μ.1 0 2) + v6) 1620 ∧ (∀ μ8 : WS, μ8 = wset μ 1 ((μ.1 0 2) + v6).toNatClampNeg (vp_nar .byte ((s0 >>> ((24 - (8 * (v6 &&& 3))) &&& 31)).toInt8.toInt32)) → P18 v1 v2 v3 v4 v5 (v6 + 1) μ8))
def w_X4_feed_18b (P18 : Int32 → Int32 → Int32 → Int32 → Int32 → Int32 → WS → Prop) (v1 : Int32) (v2 : Int32) (v3 : Int32) (v4 : Int32) (v5 : Int32) (v6 : Int32) (μ : WS) (Q : Int32 → WS → Prop) : Prop := ((20 ≤ v6) → (∀ μ3 : WS, μ3 = wset μ 0 2 ((μ.1 0 2) + 20) → Q (μ3.1 0 2) μ3)) ∧ ((¬ 20 ≤ v6) → ((4 ≤ v6) → ((8 ≤ v6) → ((12 ≤ v6) → ((16 ≤ v6) → w_X4_feed_71 P18 v5 v1 v2 v3 v4 v5 v6 μ Q) ∧ ((¬ 16 ≤ v6) → w_X4_feed_71 P18 v4 v1 v2 v3 v4 v5 v6 μ Q)) ∧ ((¬ 12 ≤ v6) → w_X4_feed_71 P18 v3 v1 v2 v3 v4 v5 v6 μ Q)) ∧ ((¬ 8 ≤ v6) → w_X4_feed_71 P18 v2 v1 v2 v3 v4 v5 v6 μ Q)) ∧ ((¬ 4 ≤ v6) → w_X4_feed_71 P18 v1 v1 v2 v3 v4 v5 v6 μ Q))
def w_X4_feed_18 (v1 : Int32) (v2 : Int32) (v3 : Int32) (v4 : Int32) (v5 : Int32) (v6 : Int32) (μ : WS) (Q : Int32 → WS → Prop) : Prop := ∀ P18 : Int32 → Int32 → Int32 → Int32 → Int32 → Int32 → WS → Prop, (∀ (v1 : Int32) (v2 : Int32) (v3 : Int32) (v4 : Int32) (v5 : Int32) (v6 : Int32) (μ : WS), w_X4_feed_18b  P18 v1 v2 v3 v4 v5 v6 μ Q → P18 v1 v2 v3 v4 v5 v6 μ) → P18 v1 v2 v3 v4 v5 v6 μ
def w_X4_feed (v1 : Int32) (v2 : Int32) (v3 : Int32) (v4 : Int32) (v5 : Int32) (μ : WS) (Q : Int32 → WS → Prop) : Prop := (((μ.1 0 2) + 20 ≤ 1600) → w_X4_feed_18 v1 v2 v3 v4 v5 0 μ Q) ∧ ((¬ (μ.1 0 2) + 20 ≤ 1600) → Q (-1) μ)
abbrev rm_X4_feed : Room := { frames := 0, cells := 0, slots := 0, locals := 0 }
theorem mf_X4_feed : MFact yX4_feed 5 rm_X4_feed := ⟨by decide +kernel, rfl, rfl⟩
set_option maxHeartbeats 4000000 in
theorem met_X4_feed (l : Launch) (D : va_G) (ac : Nat → ClassId) (ad : Nat → Nat) (Ex : Heap → Prop) (hLay : LayOk ad knM) (hEx : ExOk ad knM Ex) (v1 : Int32) (v2 : Int32) (v3 : Int32) (v4 : Int32) (v5 : Int32) (μ : WS) (Q : Int32 → WS → Prop) (h : w_X4_feed v1 v2 v3 v4 v5 μ Q) : CMet l yX4_feed cX4_feed 8 (some .int) rm_X4_feed D ac ad knM Ex [.ref (ad 0), .int v1, .int v2, .int v3, .int v4, .int v5] μ (qI Q) := by
  refine vv_met (lv := [(0, .ref (ad 0)), (1, .int v1), (2, .int v2), (3, .int v3), (4, .int v4), (5, .int v5)]) (by decide) hLay hEx (Nat.le_of_ble_eq_true rfl) rfl ⟨rfl, rfl⟩ (fun C hC hK hRm hLl hR hM => ?_)
  subst hLl
  have hRo : RoomOk (HPW D ac ad knM Ex (vS C)) (vR C) := HPW.room
  have L71 : ∀ (P18 : Int32 → Int32 → Int32 → Int32 → Int32 → Int32 → WS → Prop) (h18 : ∀ (v1 : Int32) (v2 : Int32) (v3 : Int32) (v4 : Int32) (v5 : Int32) (v6 : Int32) (μ : WS), P18 v1 v2 v3 v4 v5 v6 μ → VV C 8 (HPW D ac ad knM Ex (vS C)) (vQ C (QcW D ac ad knM (qI Q)) 0 0 (inLay ad knM)) (μ, ()) 18 [(0, .ref (ad 0)), (1, .int v1), (2, .int v2), (3, .int v3), (4, .int v4), (5, .int v5), (6, .int v6)] []) (s0 : Int32) (v1 : Int32) (v2 : Int32) (v3 : Int32) (v4 : Int32) (v5 : Int32) (v6 : Int32) (μ : WS), w_X4_feed_71 P18 s0 v1 v2 v3 v4 v5 v6 μ Q → VV C 8 (HPW D ac ad knM Ex (vS C)) (vQ C (QcW D ac ad knM (qI Q)) 0 0 (inLay ad knM)) (μ, ()) 71 [(0, .ref (ad 0)), (1, .int v1), (2, .int v2), (3, .int v3), (4, .int v4), (5, .int v5), (6, .int v6)] [.int s0] := by
    intro P18 h18 s0 v1 v2 v3 v4 v5 v6 μ h
    unfold w_X4_feed_71 at h
    refine vv_istore (lv' := [(7, .int s0), (0, .ref (ad 0)), (1, .int v1), (2, .int v2), (3, .int v3), (4, .int v4), (5, .int v5), (6, .int v6)]) hC dX4_feed_71 (by decide) rfl ?_
    refine vv_aload_n hC dX4_feed_73 rfl 1 rfl ?_
    refine vv_getf hC hR hK fa4_7 0 lm_0 (fm_0 ad _ _ _) dX4_feed_74 ?_
    refine vv_aload_n hC dX4_feed_77 rfl 1 rfl ?_
    refine vv_getf hC hR hK fa4_247 0 lm_0 (fm_2 ad _ _ _) dX4_feed_78 ?_
    refine vv_iload hC dX4_feed_81 7 rfl ?_
    refine vv_iadd hC dX4_feed_83 ?_
    refine vv_iload hC dX4_feed_84 0 rfl ?_
    refine vv_bipush hC dX4_feed_86 bp_24 ?_
    refine vv_bipush hC dX4_feed_88 bp_8 ?_
    refine vv_iload hC dX4_feed_90 7 rfl ?_
    refine vv_iconst hC dX4_feed_92 ic_3 ?_
    refine vv_iand hC dX4_feed_93 ?_
    refine vv_imul hC dX4_feed_94 ?_
    refine vv_isub hC dX4_feed_95 ?_
    refine vv_ishr hC dX4_feed_96 ?_
    refine vv_i2b hC dX4_feed_97 ?_
    obtain ⟨hin, h⟩ := h
    refine vv_bast hC hR hK 1 lm_1 hin dX4_feed_98 ?_
    refine vv_st (fun y e => ?_)
    obtain ⟨μ8, _⟩ := y
    have eμ8 := congrArg Prod.fst e
    clear e
    replace h := h μ8 eμ8
    refine vv_iinc (pl := 7) (v := v6 + 1) (lv' := [(6, .int (v6 + 1)), (7, .int s0), (0, .ref (ad 0)), (1, .int v1), (2, .int v2), (3, .int v3), (4, .int v4), (5, .int v5)]) hC dX4_feed_99 rfl rfl (by decide) rfl ?_
    refine vv_goto (tgt := 18) hC dX4_feed_102 rfl ?_
    refine vv_lv [2, 3, 4, 5, 6, 7, 0] rfl ?_
    exact h18 _ _ _ _ _ _ _ h
  have L18 : ∀ (v1 : Int32) (v2 : Int32) (v3 : Int32) (v4 : Int32) (v5 : Int32) (v6 : Int32) (μ : WS), w_X4_feed_18  v1 v2 v3 v4 v5 v6 μ Q → VV C 8 (HPW D ac ad knM Ex (vS C)) (vQ C (QcW D ac ad knM (qI Q)) 0 0 (inLay ad knM)) (μ, ()) 18 [(0, .ref (ad 0)), (1, .int v1), (2, .int v2), (3, .int v3), (4, .int v4), (5, .int v5), (6, .int v6)] [] := by
    intro  v1 v2 v3 v4 v5 v6 μ h
    refine h (fun v1 v2 v3 v4 v5 v6 μ => VV C 8 (HPW D ac ad knM Ex (vS C)) (vQ C (QcW D ac ad knM (qI Q)) 0 0 (inLay ad knM)) (μ, ()) 18 [(0, .ref (ad 0)), (1, .int v1), (2, .int v2), (3, .int v3), (4, .int v4), (5, .int v5), (6, .int v6)] []) ?_
    clear h; intro v1 v2 v3 v4 v5 v6 μ h
    have h18 : ∀ (v1 : Int32) (v2 : Int32) (v3 : Int32) (v4 : Int32) (v5 : Int32) (v6 : Int32) (μ : WS), (fun v1 v2 v3 v4 v5 v6 (μ : WS) => VV C 8 (HPW D ac ad knM Ex (vS C)) (vQ C (QcW D ac ad knM (qI Q)) 0 0 (inLay ad knM)) (μ, ()) 18 [(0, .ref (ad 0)), (1, .int v1), (2, .int v2), (3, .int v3), (4, .int v4), (5, .int v5), (6, .int v6)] []) v1 v2 v3 v4 v5 v6 μ → VV C 8 (HPW D ac ad knM Ex (vS C)) (vQ C (QcW D ac ad knM (qI Q)) 0 0 (inLay ad knM)) (μ, ()) 18 [(0, .ref (ad 0)), (1, .int v1), (2, .int v2), (3, .int v3), (4, .int v4), (5, .int v5), (6, .int v6)] [] := fun _ _ _ _ _ _ _ h => h
    unfold w_X4_feed_18b at h
    refine vv_iload hC dX4_feed_18 6 rfl ?_
    refine vv_bipush hC dX4_feed_20 bp_20 ?_
    refine vv_icmp_ge (tgt := 105) hC dX4_feed_22 rfl (fun c2 => ?_) (fun c2 => ?_)
    · replace h := h.1 c2
      refine vv_aload_n hC dX4_feed_105 rfl 0 rfl ?_
      refine vv_dup hC dX4_feed_106 rfl ?_
      refine vv_getf hC hR hK fa4_247 0 lm_0 (fm_2 ad _ _ _) dX4_feed_107 ?_
      refine vv_bipush hC dX4_feed_110 bp_20 ?_
      refine vv_iadd hC dX4_feed_112 ?_
      refine vv_puti hC hR hK fa4_247 0 lm_0 fn_2 rfl rfl dX4_feed_113 ?_
      refine vv_st (fun y e => ?_)
      obtain ⟨μ3, _⟩ := y
      have eμ3 := congrArg Prod.fst e
      clear e
      replace h := h μ3 eμ3
      refine vv_aload_n hC dX4_feed_116 rfl 0 rfl ?_
      refine vv_getf hC hR hK fa4_247 0 lm_0 (fm_2 ad _ _ _) dX4_feed_117 ?_
      exact vv_iret hC hM dX4_feed_120 h
    · replace h := h.2 c2
      refine vv_iload hC dX4_feed_25 6 rfl ?_
      refine vv_iconst hC dX4_feed_27 ic_4 ?_
      refine vv_icmp_ge (tgt := 35) hC dX4_feed_28 rfl (fun c4 => ?_) (fun c4 => ?_)
      · replace h := h.1 c4
        refine vv_iload hC dX4_feed_35 6 rfl ?_
        refine vv_bipush hC dX4_feed_37 bp_8 ?_
        refine vv_icmp_ge (tgt := 46) hC dX4_feed_39 rfl (fun c5 => ?_) (fun c5 => ?_)
        · replace h := h.1 c5
          refine vv_iload hC dX4_feed_46 6 rfl ?_
          refine vv_bipush hC dX4_feed_48 bp_12 ?_
          refine vv_icmp_ge (tgt := 57) hC dX4_feed_50 rfl (fun c6 => ?_) (fun c6 => ?_)
          · replace h := h.1 c6
            refine vv_iload hC dX4_feed_57 6 rfl ?_
            refine vv_bipush hC dX4_feed_59 bp_16 ?_
            refine vv_icmp_ge (tgt := 69) hC dX4_feed_61 rfl (fun c7 => ?_) (fun c7 => ?_)
            · replace h := h.1 c7
              refine vv_iload hC dX4_feed_69 5 rfl ?_
              exact L71 _ h18 _ _ _ _ _ _ _ _ h
            · replace h := h.2 c7
              refine vv_iload hC dX4_feed_64 4 rfl ?_
              refine vv_goto (tgt := 71) hC dX4_feed_66 rfl ?_
              exact L71 _ h18 _ _ _ _ _ _ _ _ h
          · replace h := h.2 c6
            refine vv_iload_n hC dX4_feed_53 rfl 3 rfl ?_
            refine vv_goto (tgt := 71) hC dX4_feed_54 rfl ?_
            exact L71 _ h18 _ _ _ _ _ _ _ _ h
        · replace h := h.2 c5
          refine vv_iload_n hC dX4_feed_42 rfl 2 rfl ?_
          refine vv_goto (tgt := 71) hC dX4_feed_43 rfl ?_
          exact L71 _ h18 _ _ _ _ _ _ _ _ h
      · replace h := h.2 c4
        refine vv_iload_n hC dX4_feed_31 rfl 1 rfl ?_
        refine vv_goto (tgt := 71) hC dX4_feed_32 rfl ?_
        exact L71 _ h18 _ _ _ _ _ _ _ _ h
  unfold w_X4_feed at h
  refine vv_aload_n hC dX4_feed_0 rfl 0 rfl ?_
  refine vv_getf hC hR hK fa4_247 0 lm_0 (fm_2 ad _ _ _) dX4_feed_1 ?_
  refine vv_bipush hC dX4_feed_4 bp_20 ?_
  refine vv_iadd hC dX4_feed_6 ?_
  refine vv_sipush hC dX4_feed_7 sp_1600 ?_
  refine vv_icmp_le (tgt := 15) hC dX4_feed_10 rfl (fun c1 => ?_) (fun c1 => ?_)
  · replace h := h.1 c1
    refine vv_iconst hC dX4_feed_15 ic_0 ?_
    refine vv_istore (lv' := [(6, .int 0), (0, .ref (ad 0)), (1, .int v1), (2, .int v2), (3, .int v3), (4, .int v4), (5, .int v5)]) hC dX4_feed_16 (by decide) rfl ?_
    refine vv_lv [1, 2, 3, 4, 5, 6, 0] rfl ?_
    exact L18  _ _ _ _ _ _ _ h
  · replace h := h.2 c1
    refine vv_iconst hC dX4_feed_13 ic_m1 ?_
    exact vv_iret hC hM dX4_feed_14 h
