set_option maxRecDepth 100000
theorem fFX11_15 : FAccF RX11 15 0 true := ⟨⟨RX12, TX12, tyX12, rfl, by decide, in_X12, q1403, tyX12_ok, nmX12, rfl, rfl⟩, ⟨RX13, TX13, tyX13, rfl, by decide, in_X13, q1403, tyX13_ok, nmX13, rfl, rfl⟩, ⟨RX14, TX14, tyX14, rfl, by decide, in_X14, q1403, tyX14_ok, nmX14, rfl, rfl⟩, ⟨RX15, TX15, tyX15, rfl, by decide, in_X15, q1403, tyX15_ok, nmX15, rfl, rfl⟩⟩
theorem fFX11_9 : FAccF RX11 9 1 false := ⟨⟨RX12, TX12, tyX12, rfl, by decide, in_X12, q1404, tyX12_ok, nmX12, rfl, rfl⟩, ⟨RX13, TX13, tyX13, rfl, by decide, in_X13, q1404, tyX13_ok, nmX13, rfl, rfl⟩, ⟨RX14, TX14, tyX14, rfl, by decide, in_X14, q1404, tyX14_ok, nmX14, rfl, rfl⟩, ⟨RX15, TX15, tyX15, rfl, by decide, in_X15, q1404, tyX15_ok, nmX15, rfl, rfl⟩⟩
theorem fNX13_19 : FAccN RX13 19 0 31 5 := ⟨RX0, TX0, rfl, by decide, in_X0, RX0, by unfold kxW; simp; decide⟩
theorem fNX13_30 : FAccN RX13 30 0 31 4 := ⟨RX0, TX0, rfl, by decide, in_X0, RX0, by unfold kxW; simp; decide⟩
theorem fxX13_13_X13 : FAcc RX13 13 13 5 3 .int true := ⟨RX13, TX13, tyX13, rfl, by decide, in_X13, q1430, tyX13_ok, nmX13, rfl, rfl⟩
theorem fxX13_16_X13 : FAcc RX13 16 13 5 4 .int true := ⟨RX13, TX13, tyX13, rfl, by decide, in_X13, q1431, tyX13_ok, nmX13, rfl, rfl⟩
theorem fxX13_25_X3 : FAcc RX13 25 3 12 7 .int false := ⟨RX3, TX3, tyX3, rfl, by decide, in_X3, q279, tyX3_ok, nmX3, rfl, rfl⟩
theorem fxX13_34_X3 : FAcc RX13 34 3 12 0 (.array .int) true := ⟨RX3, TX3, tyX3, rfl, by decide, in_X3, q264, tyX3_ok, nmX3, rfl, rfl⟩
theorem fxX13_43_X3 : FAcc RX13 43 3 12 3 (.array .int) true := ⟨RX3, TX3, tyX3, rfl, by decide, in_X3, q271, tyX3_ok, nmX3, rfl, rfl⟩
theorem fxX13_7_X13 : FAcc RX13 7 13 5 2 .int true := ⟨RX13, TX13, tyX13, rfl, by decide, in_X13, q1429, tyX13_ok, nmX13, rfl, rfl⟩
theorem gxX13_37 : GoodIn lw_all (wsV RX13 37 RX1 yX1_turn (ws_ yX1_turn cX1_turn 4 (some .int))) := lw_V q1578 q1127 q1128 q110 q1129
def w_X11_isKnown (S : XS) (a0 : Nat) (v1 : Int32) (μ : WS) (Q : Int32 → WS → Prop) : Prop := ((isFactA S a0) ∧ ((v1 < μ.1 a0 0) → Q 0 μ) ∧ ((¬ v1 < μ.1 a0 0) → ((isFactA S a0) ∧ ((μ.1 a0 1 < 0) → Q 1 μ) ∧ ((¬ μ.1 a0 1 < 0) → ((isFactA S a0) ∧ ((μ.1 a0 1 ≤ v1) → Q 0 μ) ∧ ((¬ μ.1 a0 1 ≤ v1) → Q 1 μ))))))
abbrev rm_X11_isKnown : Room := { frames := 0, cells := 0, slots := 0, locals := 0 }
theorem mf_X11_isKnown : MFact yX11_isKnown 1 rm_X11_isKnown := ⟨by decide +kernel, rfl, rfl⟩
set_option maxHeartbeats 4000000 in
theorem met_X11_isKnown (l : Launch) (D : va_G) (ac : Nat → ClassId) (ad : Nat → Nat) (S : XS) (hLay : LayOk ad (knX S)) (a0 : Nat) (v1 : Int32) (μ : WS) (Q : Int32 → WS → Prop) (h : w_X11_isKnown S a0 v1 μ Q) : CMet l yX11_isKnown cX11_isKnown 2 (some .boolean) rm_X11_isKnown D ac ad (knX S) (ExX D ac ad S) [.ref (ad a0), .int v1] μ (qI Q) := by
  refine vv_met (lv := [(0, .ref (ad a0)), (1, .int v1)]) (by decide) hLay exX_ok (Nat.le_of_ble_eq_true rfl) rfl ⟨rfl, rfl⟩ (fun C hC hK hRm hLl hR hM => ?_)
  subst hLl
  have hRo : RoomOk (HPW D ac ad (knX S) (ExX D ac ad S) (vS C)) (vR C) := HPW.room
  unfold w_X11_isKnown at h
  refine vv_aload_n hC dX11_isKnown_0 rfl 0 rfl ?_
  obtain ⟨hk36, h⟩ := h
  refine xx_getF hC hR hK fFX11_15 hk36 dX11_isKnown_1 ?_
  refine vv_iload_n hC dX11_isKnown_4 rfl 1 rfl ?_
  refine vv_icmp_gt (tgt := 27) hC dX11_isKnown_5 rfl (fun c1 => ?_) (fun c1 => ?_)
  · replace h := h.1 c1
    refine vv_iconst hC dX11_isKnown_27 xic_0 ?_
    exact vv_zret hC hM dX11_isKnown_28 isB_0 h
  · replace h := h.2 c1
    refine vv_aload_n hC dX11_isKnown_8 rfl 0 rfl ?_
    obtain ⟨hk37, h⟩ := h
    refine xx_getF hC hR hK fFX11_9 hk37 dX11_isKnown_9 ?_
    refine vv_if_lt (tgt := 23) hC dX11_isKnown_12 rfl (fun c2 => ?_) (fun c2 => ?_)
    · replace h := h.1 c2
      refine vv_iconst hC dX11_isKnown_23 xic_1 ?_
      refine vv_goto (tgt := 28) hC dX11_isKnown_24 rfl ?_
      exact vv_zret hC hM dX11_isKnown_28 isB_1 h
    · replace h := h.2 c2
      refine vv_aload_n hC dX11_isKnown_15 rfl 0 rfl ?_
      obtain ⟨hk38, h⟩ := h
      refine xx_getF hC hR hK fFX11_9 hk38 dX11_isKnown_16 ?_
      refine vv_iload_n hC dX11_isKnown_19 rfl 1 rfl ?_
      refine vv_icmp_le (tgt := 27) hC dX11_isKnown_20 rfl (fun c3 => ?_) (fun c3 => ?_)
      · replace h := h.1 c3
        refine vv_iconst hC dX11_isKnown_27 xic_0 ?_
        exact vv_zret hC hM dX11_isKnown_28 isB_0 h
      · replace h := h.2 c3
        refine vv_iconst hC dX11_isKnown_23 xic_1 ?_
        refine vv_goto (tgt := 28) hC dX11_isKnown_24 rfl ?_
        exact vv_zret hC hM dX11_isKnown_28 isB_1 h
def w_X11_untell (S : XS) (a0 : Nat) (v1 : Int32) (μ : WS) (Q : Int32 → WS → Prop) : Prop := ((isFactA S a0) ∧ ((μ.1 a0 1 < 0) → ((isFactA S a0) ∧ (∀ μ2 : WS, μ2 = wset μ a0 1 v1 → Q 1 μ2))) ∧ ((¬ μ.1 a0 1 < 0) → Q 0 μ))
abbrev rm_X11_untell : Room := { frames := 0, cells := 0, slots := 0, locals := 0 }
theorem mf_X11_untell : MFact yX11_untell 1 rm_X11_untell := ⟨by decide +kernel, rfl, rfl⟩
set_option maxHeartbeats 4000000 in
theorem met_X11_untell (l : Launch) (D : va_G) (ac : Nat → ClassId) (ad : Nat → Nat) (S : XS) (hLay : LayOk ad (knX S)) (a0 : Nat) (v1 : Int32) (μ : WS) (Q : Int32 → WS → Prop) (h : w_X11_untell S a0 v1 μ Q) : CMet l yX11_untell cX11_untell 2 (some .boolean) rm_X11_untell D ac ad (knX S) (ExX D ac ad S) [.ref (ad a0), .int v1] μ (qI Q) := by
  refine vv_met (lv := [(0, .ref (ad a0)), (1, .int v1)]) (by decide) hLay exX_ok (Nat.le_of_ble_eq_true rfl) rfl ⟨rfl, rfl⟩ (fun C hC hK hRm hLl hR hM => ?_)
  subst hLl
  have hRo : RoomOk (HPW D ac ad (knX S) (ExX D ac ad S) (vS C)) (vR C) := HPW.room
  unfold w_X11_untell at h
  refine vv_aload_n hC dX11_untell_0 rfl 0 rfl ?_
  obtain ⟨hk39, h⟩ := h
  refine xx_getF hC hR hK fFX11_9 hk39 dX11_untell_1 ?_
  refine vv_if_lt (tgt := 9) hC dX11_untell_4 rfl (fun c1 => ?_) (fun c1 => ?_)
  · replace h := h.1 c1
    refine vv_aload_n hC dX11_untell_9 rfl 0 rfl ?_
    refine vv_iload_n hC dX11_untell_10 rfl 1 rfl ?_
    obtain ⟨hk40, h⟩ := h
    refine xx_putF hC hR hK fFX11_9 hk40 dX11_untell_11 ?_
    refine vv_st (fun y e => ?_)
    obtain ⟨μ2, _⟩ := y
    have eμ2 := congrArg Prod.fst e
    clear e
    replace h := h μ2 eμ2
    refine vv_iconst hC dX11_untell_14 xic_1 ?_
    exact vv_zret hC hM dX11_untell_15 isB_1 h
  · replace h := h.2 c1
    refine vv_iconst hC dX11_untell_7 xic_0 ?_
    exact vv_zret hC hM dX11_untell_8 isB_0 h
def w_X13_isFalse (S : XS) (a0 : Nat) (μ : WS) (Q : Int32 → WS → Prop) : Prop := ((isFactR S 1 a0) ∧ ((μ.1 1000 7 ≤ μ.1 a0 3) → Q 1 μ) ∧ ((¬ μ.1 1000 7 ≤ μ.1 a0 3) → ((isFactR S 1 a0) ∧ ((isFactR S 1 a0) ∧ (vp_in (μ.1 a0 3) 24 ∧ (w_X1_turn S (μ.1 1001 (μ.1 a0 3).toNatClampNeg) μ (fun r3 μ2 => ((¬ (μ.1 a0 2) &&& (r3 ^^^ (-1)) = 0) → Q 1 μ2) ∧ (((μ.1 a0 2) &&& (r3 ^^^ (-1)) = 0) → ((isFactR S 1 a0) ∧ ((isFactR S 1 a0) ∧ (vp_in (μ2.1 a0 3) 24 ∧ ((μ2.1 1004 (μ2.1 a0 3).toNatClampNeg ≤ μ2.1 a0 4) → Q 0 μ2) ∧ ((¬ μ2.1 1004 (μ2.1 a0 3).toNatClampNeg ≤ μ2.1 a0 4) → Q 1 μ2))))))))))))
abbrev rm_X13_isFalse : Room := { frames := 1, cells := 0, slots := 0, locals := 23 }
theorem mf_X13_isFalse : MFact yX13_isFalse 1 rm_X13_isFalse := ⟨by decide +kernel, rfl, rfl⟩
set_option maxHeartbeats 4000000 in
theorem met_X13_isFalse (l : Launch) (D : va_G) (ac : Nat → ClassId) (ad : Nat → Nat) (S : XS) (hLay : LayOk ad (knX S)) (a0 : Nat) (μ : WS) (Q : Int32 → WS → Prop) (h : w_X13_isFalse S a0 μ Q) : CMet l yX13_isFalse cX13_isFalse 2 (some .boolean) rm_X13_isFalse D ac ad (knX S) (ExX D ac ad S) [.ref (ad a0), .ref (ad 0)] μ (qI Q) := by
  refine vv_met (lv := [(0, .ref (ad a0)), (1, .ref (ad 0))]) (by decide) hLay exX_ok (Nat.le_of_ble_eq_true rfl) rfl ⟨rfl, rfl⟩ (fun C hC hK hRm hLl hR hM => ?_)
  subst hLl
  have hRo : RoomOk (HPW D ac ad (knX S) (ExX D ac ad S) (vS C)) (vR C) := HPW.room
  unfold w_X13_isFalse at h
  refine vv_aload_n hC dX13_isFalse_0 rfl 0 rfl ?_
  obtain ⟨hk41, h⟩ := h
  refine vv_getf hC hR hK fxX13_13_X13 a0 (kx_fact hk41) rfl dX13_isFalse_1 ?_
  refine vv_aload_n hC dX13_isFalse_4 rfl 1 rfl ?_
  refine vv_getfN hC hR hK fNX13_19 0 (lx_0 S) rfl dX13_isFalse_5 ?_
  refine vv_getf hC hR hK fxX13_25_X3 1000 (lx_1000 S) rfl dX13_isFalse_8 ?_
  refine vv_icmp_ge (tgt := 62) hC dX13_isFalse_11 rfl (fun c1 => ?_) (fun c1 => ?_)
  · replace h := h.1 c1
    refine vv_iconst hC dX13_isFalse_62 xic_1 ?_
    refine vv_goto (tgt := 67) hC dX13_isFalse_63 rfl ?_
    exact vv_zret hC hM dX13_isFalse_67 isB_1 h
  · replace h := h.2 c1
    refine vv_aload_n hC dX13_isFalse_14 rfl 0 rfl ?_
    obtain ⟨hk42, h⟩ := h
    refine vv_getf hC hR hK fxX13_7_X13 a0 (kx_fact hk42) rfl dX13_isFalse_15 ?_
    refine vv_aload_n hC dX13_isFalse_18 rfl 1 rfl ?_
    refine vv_getfN hC hR hK fNX13_30 0 (lx_0 S) rfl dX13_isFalse_19 ?_
    refine vv_aload_n hC dX13_isFalse_22 rfl 1 rfl ?_
    refine vv_getfN hC hR hK fNX13_19 0 (lx_0 S) rfl dX13_isFalse_23 ?_
    refine vv_getf hC hR hK fxX13_34_X3 1000 (lx_1000 S) rfl dX13_isFalse_26 ?_
    refine vv_aload_n hC dX13_isFalse_29 rfl 0 rfl ?_
    obtain ⟨hk43, h⟩ := h
    refine vv_getf hC hR hK fxX13_13_X13 a0 (kx_fact hk43) rfl dX13_isFalse_30 ?_
    obtain ⟨hin44, h⟩ := h
    refine vv_iald hC hR hK 1001 (lx_1001 S) hin44 dX13_isFalse_33 ?_
    refine vv_callVi hC hR hK hRo hRm [.int (μ.1 1001 (μ.1 a0 3).toNatClampNeg)] [.int (μ.1 a0 2)] (met_X1_turn (vL C) D ac ad S hLay (μ.1 1001 (μ.1 a0 3).toNatClampNeg) μ _ h) gxX13_37 mf_X1_turn rfl (lx_104 S) rfl rfl rfl rfl dX13_isFalse_34 (fun r3 μ2 h => ?_)
    refine vv_iconst hC dX13_isFalse_37 xic_m1 ?_
    refine vv_ixor hC dX13_isFalse_38 ?_
    refine vv_iand hC dX13_isFalse_39 ?_
    refine vv_if_ne (tgt := 62) hC dX13_isFalse_40 rfl (fun c4 => ?_) (fun c4 => ?_)
    · replace h := h.1 c4
      refine vv_iconst hC dX13_isFalse_62 xic_1 ?_
      refine vv_goto (tgt := 67) hC dX13_isFalse_63 rfl ?_
      exact vv_zret hC hM dX13_isFalse_67 isB_1 h
    · replace h := h.2 c4
      refine vv_aload_n hC dX13_isFalse_43 rfl 0 rfl ?_
      obtain ⟨hk45, h⟩ := h
      refine vv_getf hC hR hK fxX13_16_X13 a0 (kx_fact hk45) rfl dX13_isFalse_44 ?_
      refine vv_aload_n hC dX13_isFalse_47 rfl 1 rfl ?_
      refine vv_getfN hC hR hK fNX13_19 0 (lx_0 S) rfl dX13_isFalse_48 ?_
      refine vv_getf hC hR hK fxX13_43_X3 1000 (lx_1000 S) rfl dX13_isFalse_51 ?_
      refine vv_aload_n hC dX13_isFalse_54 rfl 0 rfl ?_
      obtain ⟨hk46, h⟩ := h
      refine vv_getf hC hR hK fxX13_13_X13 a0 (kx_fact hk46) rfl dX13_isFalse_55 ?_
      obtain ⟨hin47, h⟩ := h
      refine vv_iald hC hR hK 1004 (lx_1004 S) hin47 dX13_isFalse_58 ?_
      refine vv_icmp_ge (tgt := 66) hC dX13_isFalse_59 rfl (fun c5 => ?_) (fun c5 => ?_)
      · replace h := h.1 c5
        refine vv_iconst hC dX13_isFalse_66 xic_0 ?_
        exact vv_zret hC hM dX13_isFalse_67 isB_0 h
      · replace h := h.2 c5
        refine vv_iconst hC dX13_isFalse_62 xic_1 ?_
        refine vv_goto (tgt := 67) hC dX13_isFalse_63 rfl ?_
        exact vv_zret hC hM dX13_isFalse_67 isB_1 h
