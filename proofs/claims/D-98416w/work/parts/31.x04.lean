set_option maxRecDepth 100000
theorem xvin_0_8 : vp_in 0 8 := by unfold vp_in; decide
theorem fxX0_377_X15 : FAcc RX0 377 15 5 2 .int true := ⟨RX15, TX15, tyX15, rfl, by decide, in_X15, q1480, tyX15_ok, nmX15, rfl, rfl⟩
theorem fxX0_380_X15 : FAcc RX0 380 15 5 3 .int true := ⟨RX15, TX15, tyX15, rfl, by decide, in_X15, q1482, tyX15_ok, nmX15, rfl, rfl⟩
theorem fxX0_383_X15 : FAcc RX0 383 15 5 4 .int true := ⟨RX15, TX15, tyX15, rfl, by decide, in_X15, q1484, tyX15_ok, nmX15, rfl, rfl⟩
theorem fxX0_395_X1 : FAcc RX0 395 1 7 6 .int false := ⟨RX1, TX1, tyX1, rfl, by decide, in_X1, q241, tyX1_ok, nmX1, rfl, rfl⟩
theorem fxX0_90_X0 : FAcc RX0 90 0 31 27 (.array .int) true := ⟨RX0, TX0, tyX0, rfl, by decide, in_X0, q358, tyX0_ok, nmX0, rfl, rfl⟩
theorem fxX0_93_X0 : FAcc RX0 93 0 31 28 (.array .int) true := ⟨RX0, TX0, tyX0, rfl, by decide, in_X0, q359, tyX0_ok, nmX0, rfl, rfl⟩
theorem fxX0_96_X0 : FAcc RX0 96 0 31 29 (.array (.object "SealCasts$Chest")) true := ⟨RX0, TX0, tyX0, rfl, by decide, in_X0, q360, tyX0_ok, nmX0, rfl, rfl⟩
theorem fxX0_99_X0 : FAcc RX0 99 0 31 30 (.array .boolean) true := ⟨RX0, TX0, tyX0, rfl, by decide, in_X0, q361, tyX0_ok, nmX0, rfl, rfl⟩
theorem gxX0_305 : GoodIn lw_all (va_wsS RX0 305 yX0_isPaper (ws_ yX0_isPaper cX0_isPaper 1 (some .boolean))) := lw_S q1470 q1471 q109 q1472
theorem gxX0_385 : GoodIn lw_all (wsV RX0 385 RX0 yX0_join (ws_ yX0_join cX0_join 5 none)) := lw_V q1591 q1593 qs56 q109 q1594
theorem gxX0_389 : GoodIn lw_all (wsV RX0 389 RX0 yX0_layLinks (ws_ yX0_layLinks cX0_layLinks 6 (some .boolean))) := lw_V q1587 q1589 qs55 q109 q1590
theorem gxX0_392 : GoodIn lw_all (va_wsS RX0 392 yX0_isBox (ws_ yX0_isBox cX0_isBox 1 (some .boolean))) := lw_S q1603 q1604 q109 q1605
def w_X0_join_43 (S : XS) (P3 : Int32 → Int32 → Int32 → Int32 → WS → Prop) (v1 : Int32) (v2 : Int32) (v3 : Int32) (v4 : Int32) (μ : WS) (Q : WS → Prop) : Prop := P3 v1 v2 v3 (v4 + 1) μ
def w_X0_join_3b (S : XS) (P3 : Int32 → Int32 → Int32 → Int32 → WS → Prop) (v1 : Int32) (v2 : Int32) (v3 : Int32) (v4 : Int32) (μ : WS) (Q : WS → Prop) : Prop := ((8 ≤ v4) → Q μ) ∧ ((¬ 8 ≤ v4) → (vp_in v4 8 ∧ ((μ.1 127 v4.toNatClampNeg = v1) → (vp_in v4 8 ∧ (∀ μ3 : WS, μ3 = wset μ 127 v4.toNatClampNeg v2 → (vp_in v4 8 ∧ (vp_in v4 8 ∧ (∀ μ4 : WS, μ4 = wset μ3 128 v4.toNatClampNeg ((μ3.1 128 v4.toNatClampNeg) ^^^ v3) → w_X0_join_43 S P3 v1 v2 v3 v4 μ4 Q)))))) ∧ ((¬ μ.1 127 v4.toNatClampNeg = v1) → w_X0_join_43 S P3 v1 v2 v3 v4 μ Q)))
def w_X0_join_3 (S : XS) (v1 : Int32) (v2 : Int32) (v3 : Int32) (v4 : Int32) (μ : WS) (Q : WS → Prop) : Prop := ∀ P3 : Int32 → Int32 → Int32 → Int32 → WS → Prop, (∀ (v1 : Int32) (v2 : Int32) (v3 : Int32) (v4 : Int32) (μ : WS), w_X0_join_3b S  P3 v1 v2 v3 v4 μ Q → P3 v1 v2 v3 v4 μ) → P3 v1 v2 v3 v4 μ
def w_X0_join (S : XS) (v1 : Int32) (v2 : Int32) (v3 : Int32) (μ : WS) (Q : WS → Prop) : Prop := w_X0_join_3 S v1 v2 v3 0 μ Q
abbrev rm_X0_join : Room := { frames := 0, cells := 0, slots := 0, locals := 0 }
theorem mf_X0_join : MFact yX0_join 3 rm_X0_join := ⟨by decide +kernel, rfl, rfl⟩
set_option maxHeartbeats 4000000 in
theorem met_X0_join (l : Launch) (D : va_G) (ac : Nat → ClassId) (ad : Nat → Nat) (S : XS) (hLay : LayOk ad (knX S)) (v1 : Int32) (v2 : Int32) (v3 : Int32) (μ : WS) (Q : WS → Prop) (h : w_X0_join S v1 v2 v3 μ Q) : CMet l yX0_join cX0_join 5 none rm_X0_join D ac ad (knX S) (ExX D ac ad S) [.ref (ad 0), .int v1, .int v2, .int v3] μ (qV Q) := by
  refine vv_met (lv := [(0, .ref (ad 0)), (1, .int v1), (2, .int v2), (3, .int v3)]) (by decide) hLay exX_ok (Nat.le_of_ble_eq_true rfl) rfl ⟨rfl, rfl⟩ (fun C hC hK hRm hLl hR hM => ?_)
  subst hLl
  have hRo : RoomOk (HPW D ac ad (knX S) (ExX D ac ad S) (vS C)) (vR C) := HPW.room
  have L43 : ∀ (P3 : Int32 → Int32 → Int32 → Int32 → WS → Prop) (h3 : ∀ (v1 : Int32) (v2 : Int32) (v3 : Int32) (v4 : Int32) (μ : WS), P3 v1 v2 v3 v4 μ → VV C 5 (HPW D ac ad (knX S) (ExX D ac ad S) (vS C)) (vQ C (QcW D ac ad (knX S) (qV Q)) 0 0 (inLay ad (knX S))) (μ, ()) 3 [(0, .ref (ad 0)), (1, .int v1), (2, .int v2), (3, .int v3), (4, .int v4)] []) (v1 : Int32) (v2 : Int32) (v3 : Int32) (v4 : Int32) (μ : WS), w_X0_join_43 S P3 v1 v2 v3 v4 μ Q → VV C 5 (HPW D ac ad (knX S) (ExX D ac ad S) (vS C)) (vQ C (QcW D ac ad (knX S) (qV Q)) 0 0 (inLay ad (knX S))) (μ, ()) 43 [(0, .ref (ad 0)), (1, .int v1), (2, .int v2), (3, .int v3), (4, .int v4)] [] := by
    intro P3 h3 v1 v2 v3 v4 μ h
    unfold w_X0_join_43 at h
    refine vv_iinc (pl := 4) (v := v4 + 1) (lv' := [(4, .int (v4 + 1)), (0, .ref (ad 0)), (1, .int v1), (2, .int v2), (3, .int v3)]) hC dX0_join_43 rfl rfl (by decide) rfl ?_
    refine vv_goto (tgt := 3) hC dX0_join_46 rfl ?_
    refine vv_lv [1, 2, 3, 4, 0] rfl ?_
    exact h3 _ _ _ _ _ h
  have L3 : ∀ (v1 : Int32) (v2 : Int32) (v3 : Int32) (v4 : Int32) (μ : WS), w_X0_join_3 S  v1 v2 v3 v4 μ Q → VV C 5 (HPW D ac ad (knX S) (ExX D ac ad S) (vS C)) (vQ C (QcW D ac ad (knX S) (qV Q)) 0 0 (inLay ad (knX S))) (μ, ()) 3 [(0, .ref (ad 0)), (1, .int v1), (2, .int v2), (3, .int v3), (4, .int v4)] [] := by
    intro  v1 v2 v3 v4 μ h
    refine h (fun v1 v2 v3 v4 μ => VV C 5 (HPW D ac ad (knX S) (ExX D ac ad S) (vS C)) (vQ C (QcW D ac ad (knX S) (qV Q)) 0 0 (inLay ad (knX S))) (μ, ()) 3 [(0, .ref (ad 0)), (1, .int v1), (2, .int v2), (3, .int v3), (4, .int v4)] []) ?_
    clear h; intro v1 v2 v3 v4 μ h
    have h3 : ∀ (v1 : Int32) (v2 : Int32) (v3 : Int32) (v4 : Int32) (μ : WS), (fun v1 v2 v3 v4 (μ : WS) => VV C 5 (HPW D ac ad (knX S) (ExX D ac ad S) (vS C)) (vQ C (QcW D ac ad (knX S) (qV Q)) 0 0 (inLay ad (knX S))) (μ, ()) 3 [(0, .ref (ad 0)), (1, .int v1), (2, .int v2), (3, .int v3), (4, .int v4)] []) v1 v2 v3 v4 μ → VV C 5 (HPW D ac ad (knX S) (ExX D ac ad S) (vS C)) (vQ C (QcW D ac ad (knX S) (qV Q)) 0 0 (inLay ad (knX S))) (μ, ()) 3 [(0, .ref (ad 0)), (1, .int v1), (2, .int v2), (3, .int v3), (4, .int v4)] [] := fun _ _ _ _ _ h => h
    unfold w_X0_join_3b at h
    refine vv_iload hC dX0_join_3 4 rfl ?_
    refine vv_bipush hC dX0_join_5 xbp_8 ?_
    refine vv_icmp_ge (tgt := 49) hC dX0_join_7 rfl (fun c1 => ?_) (fun c1 => ?_)
    · replace h := h.1 c1
      exact vv_vret hC hM dX0_join_49 h
    · replace h := h.2 c1
      refine vv_aload_n hC dX0_join_10 rfl 0 rfl ?_
      refine vv_getf hC hR hK fxX0_90_X0 0 (lx_0 S) rfl dX0_join_11 ?_
      refine vv_iload hC dX0_join_14 4 rfl ?_
      obtain ⟨hin419, h⟩ := h
      refine vv_iald hC hR hK 127 (lx_127 S) hin419 dX0_join_16 ?_
      refine vv_iload_n hC dX0_join_17 rfl 1 rfl ?_
      refine vv_icmp_eq (tgt := 24) hC dX0_join_18 rfl (fun c2 => ?_) (fun c2 => ?_)
      · replace h := h.1 c2
        refine vv_aload_n hC dX0_join_24 rfl 0 rfl ?_
        refine vv_getf hC hR hK fxX0_90_X0 0 (lx_0 S) rfl dX0_join_25 ?_
        refine vv_iload hC dX0_join_28 4 rfl ?_
        refine vv_iload_n hC dX0_join_30 rfl 2 rfl ?_
        obtain ⟨hin420, h⟩ := h
        refine vv_iast hC hR hK 127 (lx_127 S) hin420 dX0_join_31 ?_
        refine vv_st (fun y e => ?_)
        obtain ⟨μ3, _⟩ := y
        have eμ3 := congrArg Prod.fst e
        clear e
        replace h := h μ3 eμ3
        refine vv_aload_n hC dX0_join_32 rfl 0 rfl ?_
        refine vv_getf hC hR hK fxX0_93_X0 0 (lx_0 S) rfl dX0_join_33 ?_
        refine vv_iload hC dX0_join_36 4 rfl ?_
        refine vv_dup2 hC dX0_join_38 rfl rfl ?_
        obtain ⟨hin421, h⟩ := h
        refine vv_iald hC hR hK 128 (lx_128 S) hin421 dX0_join_39 ?_
        refine vv_iload_n hC dX0_join_40 rfl 3 rfl ?_
        refine vv_ixor hC dX0_join_41 ?_
        obtain ⟨hin422, h⟩ := h
        refine vv_iast hC hR hK 128 (lx_128 S) hin422 dX0_join_42 ?_
        refine vv_st (fun y e => ?_)
        obtain ⟨μ4, _⟩ := y
        have eμ4 := congrArg Prod.fst e
        clear e
        replace h := h μ4 eμ4
        exact L43 _ h3 _ _ _ _ _ h
      · replace h := h.2 c2
        refine vv_goto (tgt := 43) hC dX0_join_21 rfl ?_
        exact L43 _ h3 _ _ _ _ _ h
  unfold w_X0_join at h
  refine vv_iconst hC dX0_join_0 xic_0 ?_
  refine vv_istore (lv' := [(4, .int 0), (0, .ref (ad 0)), (1, .int v1), (2, .int v2), (3, .int v3)]) hC dX0_join_1 (by decide) rfl ?_
  refine vv_lv [1, 2, 3, 4, 0] rfl ?_
  exact L3  _ _ _ _ _ h
def w_X0_layLinks_187 (S : XS) (P32 : Int32 → Int32 → Int32 → WS → Prop) (v1 : Int32) (v2 : Int32) (v3 : Int32) (μ : WS) (Q : Int32 → WS → Prop) : Prop := P32 v1 v2 (v3 + 1) μ
def w_X0_layLinks_157 (S : XS) (P32 : Int32 → Int32 → Int32 → WS → Prop) (s0 : Int32) (v1 : Int32) (v3 : Int32) (μ : WS) (Q : Int32 → WS → Prop) : Prop := w_X0_layLinks_187 S P32 v1 s0 v3 μ Q
def w_X0_layLinks_32b (S : XS) (P32 : Int32 → Int32 → Int32 → WS → Prop) (v1 : Int32) (v2 : Int32) (v3 : Int32) (μ : WS) (Q : Int32 → WS → Prop) : Prop := (w_J2_size_120 S μ (fun r5 μ4 => ((r5 ≤ v3) → isB v2 ∧ Q v2 μ4) ∧ ((¬ r5 ≤ v3) → ((v2 = 0) → isB v2 ∧ Q v2 μ4) ∧ ((¬ v2 = 0) → (w_J2_get_120 S v3 μ4 (fun r9 μ8 => ((isFactA S r9) ∧ ((isFactA S r9) ∧ (w_X11_isKnown S r9 v1 μ8 (fun r11 μ10 => ((r11 = 0) → w_X0_layLinks_187 S P32 v1 v2 v3 μ10 Q) ∧ ((¬ r11 = 0) → (w_J2_get_120 S v3 μ10 (fun r14 μ13 => ((isFactA S r14) ∧ ((¬ (if S.2.1 r14 = 3 then (1 : Int32) else 0) = 0) → (w_J2_get_120 S v3 μ13 (fun r18 μ17 => ((isFactR S 3 r18) ∧ ((isFactR S 3 r18) ∧ (vp_in (μ17.1 r18 2) 8 ∧ ((isFactR S 3 r18) ∧ (vp_in (μ17.1 r18 3) 8 ∧ ((isFactR S 3 r18) ∧ (∀ x19 : Int32, x19 = ((μ17.1 128 (μ17.1 r18 2).toNatClampNeg) ^^^ (μ17.1 128 (μ17.1 r18 3).toNatClampNeg)) ^^^ (μ17.1 r18 4) → ((isFactR S 3 r18) ∧ (vp_in (μ17.1 r18 2) 8 ∧ ((isFactR S 3 r18) ∧ (vp_in (μ17.1 r18 3) 8 ∧ ((¬ μ17.1 127 (μ17.1 r18 2).toNatClampNeg = μ17.1 127 (μ17.1 r18 3).toNatClampNeg) → ((isFactR S 3 r18) ∧ (vp_in (μ17.1 r18 2) 8 ∧ ((isFactR S 3 r18) ∧ (vp_in (μ17.1 r18 3) 8 ∧ (w_X0_join S (μ17.1 127 (μ17.1 r18 2).toNatClampNeg) (μ17.1 127 (μ17.1 r18 3).toNatClampNeg) x19 μ17 (fun μ21 => w_X0_layLinks_187 S P32 v1 v2 v3 μ21 Q))))))) ∧ ((μ17.1 127 (μ17.1 r18 2).toNatClampNeg = μ17.1 127 (μ17.1 r18 3).toNatClampNeg) → ((¬ x19 = 0) → w_X0_layLinks_157 S P32 0 v1 v3 μ17 Q) ∧ ((x19 = 0) → w_X0_layLinks_157 S P32 1 v1 v3 μ17 Q)))))))))))))))) ∧ (((if S.2.1 r14 = 3 then (1 : Int32) else 0) = 0) → w_X0_layLinks_187 S P32 v1 v2 v3 μ13 Q)))))))))))))))
def w_X0_layLinks_32 (S : XS) (v1 : Int32) (v2 : Int32) (v3 : Int32) (μ : WS) (Q : Int32 → WS → Prop) : Prop := ∀ P32 : Int32 → Int32 → Int32 → WS → Prop, (∀ (v1 : Int32) (v2 : Int32) (v3 : Int32) (μ : WS), w_X0_layLinks_32b S  P32 v1 v2 v3 μ Q → P32 v1 v2 v3 μ) → P32 v1 v2 v3 μ
def w_X0_layLinks_2b (S : XS) (P2 : Int32 → Int32 → WS → Prop) (v1 : Int32) (v2 : Int32) (μ : WS) (Q : Int32 → WS → Prop) : Prop := ((8 ≤ v2) → w_X0_layLinks_32 S v1 1 0 μ Q) ∧ ((¬ 8 ≤ v2) → (vp_in v2 8 ∧ (∀ μ2 : WS, μ2 = wset μ 127 v2.toNatClampNeg v2 → (vp_in v2 8 ∧ (∀ μ3 : WS, μ3 = wset μ2 128 v2.toNatClampNeg 0 → P2 v1 (v2 + 1) μ3)))))
def w_X0_layLinks_2 (S : XS) (v1 : Int32) (v2 : Int32) (μ : WS) (Q : Int32 → WS → Prop) : Prop := ∀ P2 : Int32 → Int32 → WS → Prop, (∀ (v1 : Int32) (v2 : Int32) (μ : WS), w_X0_layLinks_2b S  P2 v1 v2 μ Q → P2 v1 v2 μ) → P2 v1 v2 μ
def w_X0_layLinks (S : XS) (v1 : Int32) (μ : WS) (Q : Int32 → WS → Prop) : Prop := w_X0_layLinks_2 S v1 0 μ Q
abbrev rm_X0_layLinks : Room := { frames := 3, cells := 0, slots := 0, locals := 64 }
theorem mf_X0_layLinks : MFact yX0_layLinks 1 rm_X0_layLinks := ⟨by decide +kernel, rfl, rfl⟩
set_option maxHeartbeats 4000000 in
theorem met_X0_layLinks (l : Launch) (D : va_G) (ac : Nat → ClassId) (ad : Nat → Nat) (S : XS) (hLay : LayOk ad (knX S)) (v1 : Int32) (μ : WS) (Q : Int32 → WS → Prop) (h : w_X0_layLinks S v1 μ Q) : CMet l yX0_layLinks cX0_layLinks 6 (some .boolean) rm_X0_layLinks D ac ad (knX S) (ExX D ac ad S) [.ref (ad 0), .int v1] μ (qI Q) := by
  refine vv_met (lv := [(0, .ref (ad 0)), (1, .int v1)]) (by decide) hLay exX_ok (Nat.le_of_ble_eq_true rfl) rfl ⟨rfl, rfl⟩ (fun C hC hK hRm hLl hR hM => ?_)
  subst hLl
  have hRo : RoomOk (HPW D ac ad (knX S) (ExX D ac ad S) (vS C)) (vR C) := HPW.room
  have L187 : ∀ (P32 : Int32 → Int32 → Int32 → WS → Prop) (h32 : ∀ (v1 : Int32) (v2 : Int32) (v3 : Int32) (μ : WS), P32 v1 v2 v3 μ → VV C 6 (HPW D ac ad (knX S) (ExX D ac ad S) (vS C)) (vQ C (QcW D ac ad (knX S) (qI Q)) 0 0 (inLay ad (knX S))) (μ, ()) 32 [(0, .ref (ad 0)), (1, .int v1), (2, .int v2), (3, .int v3)] []) (v1 : Int32) (v2 : Int32) (v3 : Int32) (μ : WS), w_X0_layLinks_187 S P32 v1 v2 v3 μ Q → VV C 6 (HPW D ac ad (knX S) (ExX D ac ad S) (vS C)) (vQ C (QcW D ac ad (knX S) (qI Q)) 0 0 (inLay ad (knX S))) (μ, ()) 187 [(0, .ref (ad 0)), (1, .int v1), (2, .int v2), (3, .int v3)] [] := by
    intro P32 h32 v1 v2 v3 μ h
    unfold w_X0_layLinks_187 at h
    refine vv_iinc (pl := 3) (v := v3 + 1) (lv' := [(3, .int (v3 + 1)), (0, .ref (ad 0)), (1, .int v1), (2, .int v2)]) hC dX0_layLinks_187 rfl rfl (by decide) rfl ?_
    refine vv_goto (tgt := 32) hC dX0_layLinks_190 rfl ?_
    refine vv_lv [1, 2, 3, 0] rfl ?_
    exact h32 _ _ _ _ h
  have L157 : ∀ (P32 : Int32 → Int32 → Int32 → WS → Prop) (h32 : ∀ (v1 : Int32) (v2 : Int32) (v3 : Int32) (μ : WS), P32 v1 v2 v3 μ → VV C 6 (HPW D ac ad (knX S) (ExX D ac ad S) (vS C)) (vQ C (QcW D ac ad (knX S) (qI Q)) 0 0 (inLay ad (knX S))) (μ, ()) 32 [(0, .ref (ad 0)), (1, .int v1), (2, .int v2), (3, .int v3)] []) (s0 : Int32) (v1 : Int32) (v3 : Int32) (μ : WS), w_X0_layLinks_157 S P32 s0 v1 v3 μ Q → VV C 6 (HPW D ac ad (knX S) (ExX D ac ad S) (vS C)) (vQ C (QcW D ac ad (knX S) (qI Q)) 0 0 (inLay ad (knX S))) (μ, ()) 157 [(0, .ref (ad 0)), (1, .int v1), (3, .int v3)] [.int s0] := by
    intro P32 h32 s0 v1 v3 μ h
    unfold w_X0_layLinks_157 at h
    refine vv_istore_n (lv' := [(2, .int s0), (0, .ref (ad 0)), (1, .int v1), (3, .int v3)]) hC dX0_layLinks_157 rfl (by decide) rfl ?_
    refine vv_goto (tgt := 187) hC dX0_layLinks_158 rfl ?_
    refine vv_lv [1, 2, 0, 3] rfl ?_
    exact L187 _ h32 _ _ _ _ h
  have L32 : ∀ (v1 : Int32) (v2 : Int32) (v3 : Int32) (μ : WS), w_X0_layLinks_32 S  v1 v2 v3 μ Q → VV C 6 (HPW D ac ad (knX S) (ExX D ac ad S) (vS C)) (vQ C (QcW D ac ad (knX S) (qI Q)) 0 0 (inLay ad (knX S))) (μ, ()) 32 [(0, .ref (ad 0)), (1, .int v1), (2, .int v2), (3, .int v3)] [] := by
    intro  v1 v2 v3 μ h
    refine h (fun v1 v2 v3 μ => VV C 6 (HPW D ac ad (knX S) (ExX D ac ad S) (vS C)) (vQ C (QcW D ac ad (knX S) (qI Q)) 0 0 (inLay ad (knX S))) (μ, ()) 32 [(0, .ref (ad 0)), (1, .int v1), (2, .int v2), (3, .int v3)] []) ?_
    clear h; intro v1 v2 v3 μ h
    have h32 : ∀ (v1 : Int32) (v2 : Int32) (v3 : Int32) (μ : WS), (fun v1 v2 v3 (μ : WS) => VV C 6 (HPW D ac ad (knX S) (ExX D ac ad S) (vS C)) (vQ C (QcW D ac ad (knX S) (qI Q)) 0 0 (inLay ad (knX S))) (μ, ()) 32 [(0, .ref (ad 0)), (1, .int v1), (2, .int v2), (3, .int v3)] []) v1 v2 v3 μ → VV C 6 (HPW D ac ad (knX S) (ExX D ac ad S) (vS C)) (vQ C (QcW D ac ad (knX S) (qI Q)) 0 0 (inLay ad (knX S))) (μ, ()) 32 [(0, .ref (ad 0)), (1, .int v1), (2, .int v2), (3, .int v3)] [] := fun _ _ _ _ h => h
    unfold w_X0_layLinks_32b at h
    refine vv_iload_n hC dX0_layLinks_32 rfl 3 rfl ?_
    refine vv_aload_n hC dX0_layLinks_33 rfl 0 rfl ?_
    refine vv_getf hC hR hK fxX0_74_X0 0 (lx_0 S) rfl dX0_layLinks_34 ?_
    refine vv_callVi hC hR hK hRo hRm [] [.int v3] (met_J2_size_120 (vL C) D ac ad S hLay  μ _ h) gxX0_144 mf_J2_size_120 rfl (lx_120 S) rfl rfl rfl rfl dX0_layLinks_37 (fun r5 μ4 h => ?_)
    refine vv_icmp_ge (tgt := 193) hC dX0_layLinks_40 rfl (fun c6 => ?_) (fun c6 => ?_)
    · replace h := h.1 c6
      refine vv_iload_n hC dX0_layLinks_193 rfl 2 rfl ?_
      exact vv_zret hC hM dX0_layLinks_194 h.1 h.2
    · replace h := h.2 c6
      refine vv_iload_n hC dX0_layLinks_43 rfl 2 rfl ?_
      refine vv_if_eq (tgt := 193) hC dX0_layLinks_44 rfl (fun c7 => ?_) (fun c7 => ?_)
      · replace h := h.1 c7
        refine vv_iload_n hC dX0_layLinks_193 rfl 2 rfl ?_
        exact vv_zret hC hM dX0_layLinks_194 h.1 h.2
      · replace h := h.2 c7
        refine vv_aload_n hC dX0_layLinks_47 rfl 0 rfl ?_
        refine vv_getf hC hR hK fxX0_74_X0 0 (lx_0 S) rfl dX0_layLinks_48 ?_
        refine vv_iload_n hC dX0_layLinks_51 rfl 3 rfl ?_
        refine vv_callVr hC hR hK hRo hRm [.int v3] [] (met_J2_get_120 (vL C) D ac ad S hLay v3 μ4 _ h) gxX0_311 mf_J2_get_120 rfl (lx_120 S) rfl rfl rfl rfl dX0_layLinks_52 (fun r9 μ8 h => ?_)
        obtain ⟨hk425, h⟩ := h
        refine xx_castF hC hR hK hk425 q1499 dX0_layLinks_55 ?_
        refine vv_iload_n hC dX0_layLinks_58 rfl 1 rfl ?_
        obtain ⟨hk426, h⟩ := h
        refine xx_callF hC hR hK hRo hRm [.int v1] [] (met_X11_isKnown (vL C) D ac ad S hLay r9 v1 μ8 _ h) q1521 q1522 ⟨q1526, q1524, q1527, q1525⟩ q139 q1528 mf_X11_isKnown rfl hk426 rfl rfl dX0_layLinks_59 (fun r11 μ10 h => ?_)
        refine vv_if_eq (tgt := 187) hC dX0_layLinks_62 rfl (fun c12 => ?_) (fun c12 => ?_)
        · replace h := h.1 c12
          exact L187 _ h32 _ _ _ _ h
        · replace h := h.2 c12
          refine vv_aload_n hC dX0_layLinks_65 rfl 0 rfl ?_
          refine vv_getf hC hR hK fxX0_74_X0 0 (lx_0 S) rfl dX0_layLinks_66 ?_
          refine vv_iload_n hC dX0_layLinks_69 rfl 3 rfl ?_
          refine vv_callVr hC hR hK hRo hRm [.int v3] [] (met_J2_get_120 (vL C) D ac ad S hLay v3 μ10 _ h) gxX0_311 mf_J2_get_120 rfl (lx_120 S) rfl rfl rfl rfl dX0_layLinks_70 (fun r14 μ13 h => ?_)
          obtain ⟨hk427, h⟩ := h
          refine xx_inst3 hC hR hK hk427 q1473 dX0_layLinks_73 ?_
          refine vv_if_ne (tgt := 82) hC dX0_layLinks_76 rfl (fun c16 => ?_) (fun c16 => ?_)
          · replace h := h.1 c16
            refine vv_aload_n hC dX0_layLinks_82 rfl 0 rfl ?_
            refine vv_getf hC hR hK fxX0_74_X0 0 (lx_0 S) rfl dX0_layLinks_83 ?_
            refine vv_iload_n hC dX0_layLinks_86 rfl 3 rfl ?_
            refine vv_callVr hC hR hK hRo hRm [.int v3] [] (met_J2_get_120 (vL C) D ac ad S hLay v3 μ13 _ h) gxX0_311 mf_J2_get_120 rfl (lx_120 S) rfl rfl rfl rfl dX0_layLinks_87 (fun r18 μ17 h => ?_)
            obtain ⟨hk428, h⟩ := h
            refine vv_castS hC hR hK (kx_fact hk428) rfl q1473 dX0_layLinks_90 ?_
            refine vv_astore (lv' := [(4, .ref (ad r18)), (0, .ref (ad 0)), (1, .int v1), (2, .int v2), (3, .int v3)]) hC dX0_layLinks_93 (by decide) rfl ?_
            refine vv_aload_n hC dX0_layLinks_95 rfl 1 rfl ?_
            refine vv_getf hC hR hK fxX0_93_X0 0 (lx_0 S) rfl dX0_layLinks_96 ?_
            refine vv_aload hC dX0_layLinks_99 0 rfl ?_
            obtain ⟨hk429, h⟩ := h
            refine vv_getf hC hR hK fxX0_377_X15 r18 (kx_fact hk429) rfl dX0_layLinks_101 ?_
            obtain ⟨hin430, h⟩ := h
            refine vv_iald hC hR hK 128 (lx_128 S) hin430 dX0_layLinks_104 ?_
            refine vv_aload_n hC dX0_layLinks_105 rfl 1 rfl ?_
            refine vv_getf hC hR hK fxX0_93_X0 0 (lx_0 S) rfl dX0_layLinks_106 ?_
            refine vv_aload hC dX0_layLinks_109 0 rfl ?_
            obtain ⟨hk431, h⟩ := h
            refine vv_getf hC hR hK fxX0_380_X15 r18 (kx_fact hk431) rfl dX0_layLinks_111 ?_
            obtain ⟨hin432, h⟩ := h
            refine vv_iald hC hR hK 128 (lx_128 S) hin432 dX0_layLinks_114 ?_
            refine vv_ixor hC dX0_layLinks_115 ?_
            refine vv_aload hC dX0_layLinks_116 0 rfl ?_
            obtain ⟨hk433, h⟩ := h
            refine vv_getf hC hR hK fxX0_383_X15 r18 (kx_fact hk433) rfl dX0_layLinks_118 ?_
            refine vv_ixor hC dX0_layLinks_121 ?_
            refine vv_topi (fun x19 ex19 => ?_)
            replace h := h x19 ex19
            refine vv_istore (lv' := [(5, .int x19), (4, .ref (ad r18)), (0, .ref (ad 0)), (1, .int v1), (2, .int v2), (3, .int v3)]) hC dX0_layLinks_122 (by decide) rfl ?_
            refine vv_aload_n hC dX0_layLinks_124 rfl 2 rfl ?_
            refine vv_getf hC hR hK fxX0_90_X0 0 (lx_0 S) rfl dX0_layLinks_125 ?_
            refine vv_aload hC dX0_layLinks_128 1 rfl ?_
            obtain ⟨hk434, h⟩ := h
            refine vv_getf hC hR hK fxX0_377_X15 r18 (kx_fact hk434) rfl dX0_layLinks_130 ?_
            obtain ⟨hin435, h⟩ := h
            refine vv_iald hC hR hK 127 (lx_127 S) hin435 dX0_layLinks_133 ?_
            refine vv_aload_n hC dX0_layLinks_134 rfl 2 rfl ?_
            refine vv_getf hC hR hK fxX0_90_X0 0 (lx_0 S) rfl dX0_layLinks_135 ?_
            refine vv_aload hC dX0_layLinks_138 1 rfl ?_
            obtain ⟨hk436, h⟩ := h
            refine vv_getf hC hR hK fxX0_380_X15 r18 (kx_fact hk436) rfl dX0_layLinks_140 ?_
            obtain ⟨hin437, h⟩ := h
            refine vv_iald hC hR hK 127 (lx_127 S) hin437 dX0_layLinks_143 ?_
            refine vv_icmp_ne (tgt := 161) hC dX0_layLinks_144 rfl (fun c20 => ?_) (fun c20 => ?_)
            · replace h := h.1 c20
              refine vv_aload_n hC dX0_layLinks_161 rfl 2 rfl ?_
              refine vv_aload_n hC dX0_layLinks_162 rfl 2 rfl ?_
              refine vv_getf hC hR hK fxX0_90_X0 0 (lx_0 S) rfl dX0_layLinks_163 ?_
              refine vv_aload hC dX0_layLinks_166 1 rfl ?_
              obtain ⟨hk438, h⟩ := h
              refine vv_getf hC hR hK fxX0_377_X15 r18 (kx_fact hk438) rfl dX0_layLinks_168 ?_
              obtain ⟨hin439, h⟩ := h
              refine vv_iald hC hR hK 127 (lx_127 S) hin439 dX0_layLinks_171 ?_
              refine vv_aload_n hC dX0_layLinks_172 rfl 2 rfl ?_
              refine vv_getf hC hR hK fxX0_90_X0 0 (lx_0 S) rfl dX0_layLinks_173 ?_
              refine vv_aload hC dX0_layLinks_176 1 rfl ?_
              obtain ⟨hk440, h⟩ := h
              refine vv_getf hC hR hK fxX0_380_X15 r18 (kx_fact hk440) rfl dX0_layLinks_178 ?_
              obtain ⟨hin441, h⟩ := h
              refine vv_iald hC hR hK 127 (lx_127 S) hin441 dX0_layLinks_181 ?_
              refine vv_iload hC dX0_layLinks_182 0 rfl ?_
              refine vv_callVv hC hR hK hRo hRm [.int (μ17.1 127 (μ17.1 r18 2).toNatClampNeg), .int (μ17.1 127 (μ17.1 r18 3).toNatClampNeg), .int x19] [] (met_X0_join (vL C) D ac ad S hLay (μ17.1 127 (μ17.1 r18 2).toNatClampNeg) (μ17.1 127 (μ17.1 r18 3).toNatClampNeg) x19 μ17 _ h) gxX0_385 mf_X0_join rfl (lx_0 S) rfl rfl rfl rfl dX0_layLinks_184 (fun μ21 h => ?_)
              refine vv_lv [2, 3, 4, 5] rfl ?_
              exact L187 _ h32 _ _ _ _ h
            · replace h := h.2 c20
              refine vv_iload hC dX0_layLinks_147 0 rfl ?_
              refine vv_if_ne (tgt := 156) hC dX0_layLinks_149 rfl (fun c23 => ?_) (fun c23 => ?_)
              · replace h := h.1 c23
                refine vv_iconst hC dX0_layLinks_156 xic_0 ?_
                refine vv_lv [2, 3, 5] rfl ?_
                exact L157 _ h32 _ _ _ _ h
              · replace h := h.2 c23
                refine vv_iconst hC dX0_layLinks_152 xic_1 ?_
                refine vv_goto (tgt := 157) hC dX0_layLinks_153 rfl ?_
                refine vv_lv [2, 3, 5] rfl ?_
                exact L157 _ h32 _ _ _ _ h
          · replace h := h.2 c16
            refine vv_goto (tgt := 187) hC dX0_layLinks_79 rfl ?_
            exact L187 _ h32 _ _ _ _ h
  have L2 : ∀ (v1 : Int32) (v2 : Int32) (μ : WS), w_X0_layLinks_2 S  v1 v2 μ Q → VV C 6 (HPW D ac ad (knX S) (ExX D ac ad S) (vS C)) (vQ C (QcW D ac ad (knX S) (qI Q)) 0 0 (inLay ad (knX S))) (μ, ()) 2 [(0, .ref (ad 0)), (1, .int v1), (2, .int v2)] [] := by
    intro  v1 v2 μ h
    refine h (fun v1 v2 μ => VV C 6 (HPW D ac ad (knX S) (ExX D ac ad S) (vS C)) (vQ C (QcW D ac ad (knX S) (qI Q)) 0 0 (inLay ad (knX S))) (μ, ()) 2 [(0, .ref (ad 0)), (1, .int v1), (2, .int v2)] []) ?_
    clear h; intro v1 v2 μ h
    have h2 : ∀ (v1 : Int32) (v2 : Int32) (μ : WS), (fun v1 v2 (μ : WS) => VV C 6 (HPW D ac ad (knX S) (ExX D ac ad S) (vS C)) (vQ C (QcW D ac ad (knX S) (qI Q)) 0 0 (inLay ad (knX S))) (μ, ()) 2 [(0, .ref (ad 0)), (1, .int v1), (2, .int v2)] []) v1 v2 μ → VV C 6 (HPW D ac ad (knX S) (ExX D ac ad S) (vS C)) (vQ C (QcW D ac ad (knX S) (qI Q)) 0 0 (inLay ad (knX S))) (μ, ()) 2 [(0, .ref (ad 0)), (1, .int v1), (2, .int v2)] [] := fun _ _ _ h => h
    unfold w_X0_layLinks_2b at h
    refine vv_iload_n hC dX0_layLinks_2 rfl 2 rfl ?_
    refine vv_bipush hC dX0_layLinks_3 xbp_8 ?_
    refine vv_icmp_ge (tgt := 28) hC dX0_layLinks_5 rfl (fun c1 => ?_) (fun c1 => ?_)
    · replace h := h.1 c1
      refine vv_iconst hC dX0_layLinks_28 xic_1 ?_
      refine vv_istore_n (lv' := [(2, .int 1), (0, .ref (ad 0)), (1, .int v1)]) hC dX0_layLinks_29 rfl (by decide) rfl ?_
      refine vv_iconst hC dX0_layLinks_30 xic_0 ?_
      refine vv_istore_n (lv' := [(3, .int 0), (2, .int 1), (0, .ref (ad 0)), (1, .int v1)]) hC dX0_layLinks_31 rfl (by decide) rfl ?_
      refine vv_lv [2, 3, 1, 0] rfl ?_
      exact L32  _ _ _ _ h
    · replace h := h.2 c1
      refine vv_aload_n hC dX0_layLinks_8 rfl 0 rfl ?_
      refine vv_getf hC hR hK fxX0_90_X0 0 (lx_0 S) rfl dX0_layLinks_9 ?_
      refine vv_iload_n hC dX0_layLinks_12 rfl 2 rfl ?_
      refine vv_iload_n hC dX0_layLinks_13 rfl 2 rfl ?_
      obtain ⟨hin423, h⟩ := h
      refine vv_iast hC hR hK 127 (lx_127 S) hin423 dX0_layLinks_14 ?_
      refine vv_st (fun y e => ?_)
      obtain ⟨μ2, _⟩ := y
      have eμ2 := congrArg Prod.fst e
      clear e
      replace h := h μ2 eμ2
      refine vv_aload_n hC dX0_layLinks_15 rfl 0 rfl ?_
      refine vv_getf hC hR hK fxX0_93_X0 0 (lx_0 S) rfl dX0_layLinks_16 ?_
      refine vv_iload_n hC dX0_layLinks_19 rfl 2 rfl ?_
      refine vv_iconst hC dX0_layLinks_20 xic_0 ?_
      obtain ⟨hin424, h⟩ := h
      refine vv_iast hC hR hK 128 (lx_128 S) hin424 dX0_layLinks_21 ?_
      refine vv_st (fun y e => ?_)
      obtain ⟨μ3, _⟩ := y
      have eμ3 := congrArg Prod.fst e
      clear e
      replace h := h μ3 eμ3
      refine vv_iinc (pl := 2) (v := v2 + 1) (lv' := [(2, .int (v2 + 1)), (0, .ref (ad 0)), (1, .int v1)]) hC dX0_layLinks_22 rfl rfl (by decide) rfl ?_
      refine vv_goto (tgt := 2) hC dX0_layLinks_25 rfl ?_
      refine vv_lv [1, 2, 0] rfl ?_
      exact h2 _ _ _ h
  unfold w_X0_layLinks at h
  refine vv_iconst hC dX0_layLinks_0 xic_0 ?_
  refine vv_istore_n (lv' := [(2, .int 0), (0, .ref (ad 0)), (1, .int v1)]) hC dX0_layLinks_1 rfl (by decide) rfl ?_
  refine vv_lv [1, 2, 0] rfl ?_
  exact L2  _ _ _ h
def w_X0_backward (S : XS) (v1 : Int32) (v2 : Int32) (μ : WS) (Q : Int32 → WS → Prop) : Prop := (w_X0_isPaper S v1 μ (fun r2 μ1 => ((¬ r2 = 0) → (w_X0_layLinks S v2 μ1 (fun r5 μ4 => ((¬ r5 = 0) → (vp_in v1 8 ∧ ((μ4.1 127 v1.toNatClampNeg = μ4.1 127 0) → (vp_in v1 8 ∧ Q ((μ4.1 128 v1.toNatClampNeg) ^^^ (μ4.1 128 0)) μ4)) ∧ ((¬ μ4.1 127 v1.toNatClampNeg = μ4.1 127 0) → Q (-1) μ4))) ∧ ((r5 = 0) → Q (-2) μ4)))) ∧ ((r2 = 0) → Q (-1) μ1)))
abbrev rm_X0_backward : Room := { frames := 4, cells := 0, slots := 0, locals := 89 }
theorem mf_X0_backward : MFact yX0_backward 2 rm_X0_backward := ⟨by decide +kernel, rfl, rfl⟩
set_option maxHeartbeats 4000000 in
theorem met_X0_backward (l : Launch) (D : va_G) (ac : Nat → ClassId) (ad : Nat → Nat) (S : XS) (hLay : LayOk ad (knX S)) (v1 : Int32) (v2 : Int32) (μ : WS) (Q : Int32 → WS → Prop) (h : w_X0_backward S v1 v2 μ Q) : CMet l yX0_backward cX0_backward 3 (some .int) rm_X0_backward D ac ad (knX S) (ExX D ac ad S) [.ref (ad 0), .int v1, .int v2] μ (qI Q) := by
  refine vv_met (lv := [(0, .ref (ad 0)), (1, .int v1), (2, .int v2)]) (by decide) hLay exX_ok (Nat.le_of_ble_eq_true rfl) rfl ⟨rfl, rfl⟩ (fun C hC hK hRm hLl hR hM => ?_)
  subst hLl
  have hRo : RoomOk (HPW D ac ad (knX S) (ExX D ac ad S) (vS C)) (vR C) := HPW.room
  unfold w_X0_backward at h
  refine vv_iload_n hC dX0_backward_0 rfl 1 rfl ?_
  refine vv_callSi hC hR hK hRo hRm [.int v1] [] (met_X0_isPaper (vL C) D ac ad S hLay v1 μ _ h) gxX0_305 mf_X0_isPaper rfl rfl rfl dX0_backward_1 (fun r2 μ1 h => ?_)
  refine vv_if_ne (tgt := 9) hC dX0_backward_4 rfl (fun c3 => ?_) (fun c3 => ?_)
  · replace h := h.1 c3
    refine vv_aload_n hC dX0_backward_9 rfl 0 rfl ?_
    refine vv_iload_n hC dX0_backward_10 rfl 2 rfl ?_
    refine vv_callVi hC hR hK hRo hRm [.int v2] [] (met_X0_layLinks (vL C) D ac ad S hLay v2 μ1 _ h) gxX0_389 mf_X0_layLinks rfl (lx_0 S) rfl rfl rfl rfl dX0_backward_11 (fun r5 μ4 h => ?_)
    refine vv_if_ne (tgt := 20) hC dX0_backward_14 rfl (fun c6 => ?_) (fun c6 => ?_)
    · replace h := h.1 c6
      refine vv_aload_n hC dX0_backward_20 rfl 0 rfl ?_
      refine vv_getf hC hR hK fxX0_90_X0 0 (lx_0 S) rfl dX0_backward_21 ?_
      refine vv_iload_n hC dX0_backward_24 rfl 1 rfl ?_
      obtain ⟨hin442, h⟩ := h
      refine vv_iald hC hR hK 127 (lx_127 S) hin442 dX0_backward_25 ?_
      refine vv_aload_n hC dX0_backward_26 rfl 0 rfl ?_
      refine vv_getf hC hR hK fxX0_90_X0 0 (lx_0 S) rfl dX0_backward_27 ?_
      refine vv_iconst hC dX0_backward_30 xic_0 ?_
      refine vv_iald hC hR hK 127 (lx_127 S) xvin_0_8 dX0_backward_31 ?_
      refine vv_icmp_eq (tgt := 39) hC dX0_backward_32 rfl (fun c7 => ?_) (fun c7 => ?_)
      · replace h := h.1 c7
        refine vv_aload_n hC dX0_backward_39 rfl 0 rfl ?_
        refine vv_getf hC hR hK fxX0_93_X0 0 (lx_0 S) rfl dX0_backward_40 ?_
        refine vv_iload_n hC dX0_backward_43 rfl 1 rfl ?_
        obtain ⟨hin443, h⟩ := h
        refine vv_iald hC hR hK 128 (lx_128 S) hin443 dX0_backward_44 ?_
        refine vv_aload_n hC dX0_backward_45 rfl 0 rfl ?_
        refine vv_getf hC hR hK fxX0_93_X0 0 (lx_0 S) rfl dX0_backward_46 ?_
        refine vv_iconst hC dX0_backward_49 xic_0 ?_
        refine vv_iald hC hR hK 128 (lx_128 S) xvin_0_8 dX0_backward_50 ?_
        refine vv_ixor hC dX0_backward_51 ?_
        exact vv_iret hC hM dX0_backward_52 h
      · replace h := h.2 c7
        refine vv_iconst hC dX0_backward_35 xic_m1 ?_
        refine vv_goto (tgt := 52) hC dX0_backward_36 rfl ?_
        exact vv_iret hC hM dX0_backward_52 h
    · replace h := h.2 c6
      refine vv_bipush hC dX0_backward_17 xbp_m2 ?_
      exact vv_iret hC hM dX0_backward_19 h
  · replace h := h.2 c3
    refine vv_iconst hC dX0_backward_7 xic_m1 ?_
    exact vv_iret hC hM dX0_backward_8 h
def w_X0_lies (S : XS) (v1 : Int32) (μ : WS) (Q : Int32 → WS → Prop) : Prop := (w_X0_isIn S v1 0 ((μ.1 0 16) - 1) μ (fun r2 μ1 => ((r2 = 0) → Q (-2) μ1) ∧ ((¬ r2 = 0) → (vp_in v1 12 ∧ Q (μ1.1 115 v1.toNatClampNeg) μ1))))
abbrev rm_X0_lies : Room := { frames := 1, cells := 0, slots := 0, locals := 22 }
theorem mf_X0_lies : MFact yX0_lies 1 rm_X0_lies := ⟨by decide +kernel, rfl, rfl⟩
set_option maxHeartbeats 4000000 in
theorem met_X0_lies (l : Launch) (D : va_G) (ac : Nat → ClassId) (ad : Nat → Nat) (S : XS) (hLay : LayOk ad (knX S)) (v1 : Int32) (μ : WS) (Q : Int32 → WS → Prop) (h : w_X0_lies S v1 μ Q) : CMet l yX0_lies cX0_lies 2 (some .int) rm_X0_lies D ac ad (knX S) (ExX D ac ad S) [.ref (ad 0), .int v1] μ (qI Q) := by
  refine vv_met (lv := [(0, .ref (ad 0)), (1, .int v1)]) (by decide) hLay exX_ok (Nat.le_of_ble_eq_true rfl) rfl ⟨rfl, rfl⟩ (fun C hC hK hRm hLl hR hM => ?_)
  subst hLl
  have hRo : RoomOk (HPW D ac ad (knX S) (ExX D ac ad S) (vS C)) (vR C) := HPW.room
  unfold w_X0_lies at h
  refine vv_iload_n hC dX0_lies_0 rfl 1 rfl ?_
  refine vv_iconst hC dX0_lies_1 xic_0 ?_
  refine vv_aload_n hC dX0_lies_2 rfl 0 rfl ?_
  refine vv_getf hC hR hK fxX0_121_X0 0 (lx_0 S) rfl dX0_lies_3 ?_
  refine vv_iconst hC dX0_lies_6 xic_1 ?_
  refine vv_isub hC dX0_lies_7 ?_
  refine vv_callSi hC hR hK hRo hRm [.int v1, .int 0, .int ((μ.1 0 16) - 1)] [] (met_X0_isIn (vL C) D ac ad S hLay v1 0 ((μ.1 0 16) - 1) μ _ h) gxX0_150 mf_X0_isIn rfl rfl rfl dX0_lies_8 (fun r2 μ1 h => ?_)
  refine vv_if_eq (tgt := 23) hC dX0_lies_11 rfl (fun c3 => ?_) (fun c3 => ?_)
  · replace h := h.1 c3
    refine vv_bipush hC dX0_lies_23 xbp_m2 ?_
    exact vv_iret hC hM dX0_lies_25 h
  · replace h := h.2 c3
    refine vv_aload_n hC dX0_lies_14 rfl 0 rfl ?_
    refine vv_getf hC hR hK fxX0_55_X0 0 (lx_0 S) rfl dX0_lies_15 ?_
    refine vv_iload_n hC dX0_lies_18 rfl 1 rfl ?_
    obtain ⟨hin444, h⟩ := h
    refine vv_iald hC hR hK 115 (lx_115 S) hin444 dX0_lies_19 ?_
    refine vv_goto (tgt := 25) hC dX0_lies_20 rfl ?_
    exact vv_iret hC hM dX0_lies_25 h
def w_X0_isBox (S : XS) (v0 : Int32) (μ : WS) (Q : Int32 → WS → Prop) : Prop := (w_X0_isIn S v0 0 2 μ (fun r2 μ1 => isB r2 ∧ Q r2 μ1))
abbrev rm_X0_isBox : Room := { frames := 1, cells := 0, slots := 0, locals := 22 }
theorem mf_X0_isBox : MFact yX0_isBox 1 rm_X0_isBox := ⟨by decide +kernel, rfl, rfl⟩
set_option maxHeartbeats 4000000 in
theorem met_X0_isBox (l : Launch) (D : va_G) (ac : Nat → ClassId) (ad : Nat → Nat) (S : XS) (hLay : LayOk ad (knX S)) (v0 : Int32) (μ : WS) (Q : Int32 → WS → Prop) (h : w_X0_isBox S v0 μ Q) : CMet l yX0_isBox cX0_isBox 1 (some .boolean) rm_X0_isBox D ac ad (knX S) (ExX D ac ad S) [.int v0] μ (qI Q) := by
  refine vv_met (lv := [(0, .int v0)]) (by decide) hLay exX_ok (Nat.le_of_ble_eq_true rfl) rfl ⟨rfl, rfl⟩ (fun C hC hK hRm hLl hR hM => ?_)
  subst hLl
  have hRo : RoomOk (HPW D ac ad (knX S) (ExX D ac ad S) (vS C)) (vR C) := HPW.room
  unfold w_X0_isBox at h
  refine vv_iload_n hC dX0_isBox_0 rfl 0 rfl ?_
  refine vv_iconst hC dX0_isBox_1 xic_0 ?_
  refine vv_iconst hC dX0_isBox_2 xic_2 ?_
  refine vv_callSi hC hR hK hRo hRm [.int v0, .int 0, .int 2] [] (met_X0_isIn (vL C) D ac ad S hLay v0 0 2 μ _ h) gxX0_150 mf_X0_isIn rfl rfl rfl dX0_isBox_3 (fun r2 μ1 h => ?_)
  exact vv_zret hC hM dX0_isBox_6 h.1 h.2
def w_X0_image (S : XS) (v1 : Int32) (μ : WS) (Q : Int32 → WS → Prop) : Prop := (w_X0_isBox S v1 μ (fun r2 μ1 => ((¬ r2 = 0) → (vp_in v1 3 ∧ (∃ b4 : Nat, μ1.2.2 129 v1.toNatClampNeg = some b4 ∧ ((isChestR b4) ∧ (w_X3_copy S b4 1000 μ1 (fun r6 μ5 => (vp_in v1 3 ∧ (∀ μ7 : WS, μ7 = wset μ5 130 v1.toNatClampNeg (vp_nar .boolean 1) → Q (μ7.1 1000 7) μ7)))))))) ∧ ((r2 = 0) → Q (-1) μ1)))
abbrev rm_X0_image : Room := { frames := 2, cells := 0, slots := 0, locals := 85 }
theorem mf_X0_image : MFact yX0_image 1 rm_X0_image := ⟨by decide +kernel, rfl, rfl⟩
set_option maxHeartbeats 4000000 in
theorem met_X0_image (l : Launch) (D : va_G) (ac : Nat → ClassId) (ad : Nat → Nat) (S : XS) (hLay : LayOk ad (knX S)) (v1 : Int32) (μ : WS) (Q : Int32 → WS → Prop) (h : w_X0_image S v1 μ Q) : CMet l yX0_image cX0_image 2 (some .int) rm_X0_image D ac ad (knX S) (ExX D ac ad S) [.ref (ad 0), .int v1] μ (qI Q) := by
  refine vv_met (lv := [(0, .ref (ad 0)), (1, .int v1)]) (by decide) hLay exX_ok (Nat.le_of_ble_eq_true rfl) rfl ⟨rfl, rfl⟩ (fun C hC hK hRm hLl hR hM => ?_)
  subst hLl
  have hRo : RoomOk (HPW D ac ad (knX S) (ExX D ac ad S) (vS C)) (vR C) := HPW.room
  unfold w_X0_image at h
  refine vv_iload_n hC dX0_image_0 rfl 1 rfl ?_
  refine vv_callSi hC hR hK hRo hRm [.int v1] [] (met_X0_isBox (vL C) D ac ad S hLay v1 μ _ h) gxX0_392 mf_X0_isBox rfl rfl rfl dX0_image_1 (fun r2 μ1 h => ?_)
  refine vv_if_ne (tgt := 9) hC dX0_image_4 rfl (fun c3 => ?_) (fun c3 => ?_)
  · replace h := h.1 c3
    refine vv_aload_n hC dX0_image_9 rfl 0 rfl ?_
    refine vv_getf hC hR hK fxX0_96_X0 0 (lx_0 S) rfl dX0_image_10 ?_
    refine vv_iload_n hC dX0_image_13 rfl 1 rfl ?_
    obtain ⟨hin445, h⟩ := h
    obtain ⟨b4, hb446, h⟩ := h
    refine vv_aald hC hR hK 129 (t := 5) rfl (by decide) rfl (lx_129 S) hin445 hb446 dX0_image_14 ?_
    refine vv_aload_n hC dX0_image_15 rfl 0 rfl ?_
    refine vv_getf hC hR hK fxX0_31_X0 0 (lx_0 S) rfl dX0_image_16 ?_
    obtain ⟨hk447, h⟩ := h
    refine vv_callVr hC hR hK hRo hRm [.ref (ad 1000)] [] (met_X3_copy (vL C) D ac ad S hLay b4 1000 μ1 _ h) gxX0_216 mf_X3_copy rfl (kx_chest hk447) rfl rfl rfl rfl dX0_image_19 (fun r6 μ5 h => ?_)
    refine vv_pop hC dX0_image_22 rfl ?_
    refine vv_aload_n hC dX0_image_23 rfl 0 rfl ?_
    refine vv_getf hC hR hK fxX0_99_X0 0 (lx_0 S) rfl dX0_image_24 ?_
    refine vv_iload_n hC dX0_image_27 rfl 1 rfl ?_
    refine vv_iconst hC dX0_image_28 xic_1 ?_
    obtain ⟨hin448, h⟩ := h
    refine vv_zast hC hR hK 130 (lx_130 S) hin448 dX0_image_29 ?_
    refine vv_st (fun y e => ?_)
    obtain ⟨μ7, _⟩ := y
    have eμ7 := congrArg Prod.fst e
    clear e
    replace h := h μ7 eμ7
    refine vv_aload_n hC dX0_image_30 rfl 0 rfl ?_
    refine vv_getf hC hR hK fxX0_31_X0 0 (lx_0 S) rfl dX0_image_31 ?_
    refine vv_getf hC hR hK fxX0_154_X3 1000 (lx_1000 S) rfl dX0_image_34 ?_
    exact vv_iret hC hM dX0_image_37 h
  · replace h := h.2 c3
    refine vv_iconst hC dX0_image_7 xic_m1 ?_
    exact vv_iret hC hM dX0_image_8 h
def w_X0_back (S : XS) (v1 : Int32) (μ : WS) (Q : Int32 → WS → Prop) : Prop := (w_X0_isBox S v1 μ (fun r2 μ1 => ((r2 = 0) → Q (-1) μ1) ∧ ((¬ r2 = 0) → (vp_in v1 3 ∧ ((¬ μ1.1 130 v1.toNatClampNeg = 0) → (vp_in v1 3 ∧ (∃ b5 : Nat, μ1.2.2 129 v1.toNatClampNeg = some b5 ∧ (w_X3_copy S 1000 b5 μ1 (fun r7 μ6 => (∀ μ8 : WS, μ8 = wset μ6 0 9 0 → (∀ μ9 : WS, μ9 = wset μ8 0 10 0 → Q (μ9.1 1000 7) μ9))))))) ∧ ((μ1.1 130 v1.toNatClampNeg = 0) → Q (-1) μ1)))))
abbrev rm_X0_back : Room := { frames := 2, cells := 0, slots := 0, locals := 85 }
theorem mf_X0_back : MFact yX0_back 1 rm_X0_back := ⟨by decide +kernel, rfl, rfl⟩
set_option maxHeartbeats 4000000 in
theorem met_X0_back (l : Launch) (D : va_G) (ac : Nat → ClassId) (ad : Nat → Nat) (S : XS) (hLay : LayOk ad (knX S)) (v1 : Int32) (μ : WS) (Q : Int32 → WS → Prop) (h : w_X0_back S v1 μ Q) : CMet l yX0_back cX0_back 2 (some .int) rm_X0_back D ac ad (knX S) (ExX D ac ad S) [.ref (ad 0), .int v1] μ (qI Q) := by
  refine vv_met (lv := [(0, .ref (ad 0)), (1, .int v1)]) (by decide) hLay exX_ok (Nat.le_of_ble_eq_true rfl) rfl ⟨rfl, rfl⟩ (fun C hC hK hRm hLl hR hM => ?_)
  subst hLl
  have hRo : RoomOk (HPW D ac ad (knX S) (ExX D ac ad S) (vS C)) (vR C) := HPW.room
  unfold w_X0_back at h
  refine vv_iload_n hC dX0_back_0 rfl 1 rfl ?_
  refine vv_callSi hC hR hK hRo hRm [.int v1] [] (met_X0_isBox (vL C) D ac ad S hLay v1 μ _ h) gxX0_392 mf_X0_isBox rfl rfl rfl dX0_back_1 (fun r2 μ1 h => ?_)
  refine vv_if_eq (tgt := 16) hC dX0_back_4 rfl (fun c3 => ?_) (fun c3 => ?_)
  · replace h := h.1 c3
    refine vv_iconst hC dX0_back_16 xic_m1 ?_
    exact vv_iret hC hM dX0_back_17 h
  · replace h := h.2 c3
    refine vv_aload_n hC dX0_back_7 rfl 0 rfl ?_
    refine vv_getf hC hR hK fxX0_99_X0 0 (lx_0 S) rfl dX0_back_8 ?_
    refine vv_iload_n hC dX0_back_11 rfl 1 rfl ?_
    obtain ⟨hin449, h⟩ := h
    refine vv_zald hC hR hK 130 (lx_130 S) hin449 dX0_back_12 ?_
    refine vv_if_ne (tgt := 18) hC dX0_back_13 rfl (fun c4 => ?_) (fun c4 => ?_)
    · replace h := h.1 c4
      refine vv_aload_n hC dX0_back_18 rfl 0 rfl ?_
      refine vv_getf hC hR hK fxX0_31_X0 0 (lx_0 S) rfl dX0_back_19 ?_
      refine vv_aload_n hC dX0_back_22 rfl 0 rfl ?_
      refine vv_getf hC hR hK fxX0_96_X0 0 (lx_0 S) rfl dX0_back_23 ?_
      refine vv_iload_n hC dX0_back_26 rfl 1 rfl ?_
      obtain ⟨hin450, h⟩ := h
      obtain ⟨b5, hb451, h⟩ := h
      refine vv_aald hC hR hK 129 (t := 5) rfl (by decide) rfl (lx_129 S) hin450 hb451 dX0_back_27 ?_
      refine vv_callVr hC hR hK hRo hRm [.ref (ad b5)] [] (met_X3_copy (vL C) D ac ad S hLay 1000 b5 μ1 _ h) gxX0_216 mf_X3_copy rfl (lx_1000 S) rfl rfl rfl rfl dX0_back_28 (fun r7 μ6 h => ?_)
      refine vv_pop hC dX0_back_31 rfl ?_
      refine vv_aload_n hC dX0_back_32 rfl 0 rfl ?_
      refine vv_iconst hC dX0_back_33 xic_0 ?_
      refine vv_puti hC hR hK fxX0_115_X0 0 (lx_0 S) rfl rfl rfl dX0_back_34 ?_
      refine vv_st (fun y e => ?_)
      obtain ⟨μ8, _⟩ := y
      have eμ8 := congrArg Prod.fst e
      clear e
      replace h := h μ8 eμ8
      refine vv_aload_n hC dX0_back_37 rfl 0 rfl ?_
      refine vv_iconst hC dX0_back_38 xic_0 ?_
      refine vv_puti hC hR hK fxX0_118_X0 0 (lx_0 S) rfl rfl rfl dX0_back_39 ?_
      refine vv_st (fun y e => ?_)
      obtain ⟨μ9, _⟩ := y
      have eμ9 := congrArg Prod.fst e
      clear e
      replace h := h μ9 eμ9
      refine vv_aload_n hC dX0_back_42 rfl 0 rfl ?_
      refine vv_getf hC hR hK fxX0_31_X0 0 (lx_0 S) rfl dX0_back_43 ?_
      refine vv_getf hC hR hK fxX0_154_X3 1000 (lx_1000 S) rfl dX0_back_46 ?_
      exact vv_iret hC hM dX0_back_49 h
    · replace h := h.2 c4
      refine vv_iconst hC dX0_back_16 xic_m1 ?_
      exact vv_iret hC hM dX0_back_17 h
def w_X0_about (S : XS) (v1 : Int32) (μ : WS) (Q : Int32 → WS → Prop) : Prop := (v1 = 0 → (w_X0_hands S μ (fun r3 μ2 => Q r3 μ2))) ∧ (v1 = 1 → Q (μ.1 104 2) μ) ∧ (v1 = 2 → Q (μ.1 1000 7) μ) ∧ (v1 = 3 → Q (μ.1 1000 8) μ) ∧ (v1 = 4 → Q (μ.1 1000 9) μ) ∧ (v1 = 5 → Q (μ.1 1000 10) μ) ∧ (v1 = 6 → Q (μ.1 1000 11) μ) ∧ (v1 = 7 → Q (μ.1 0 9) μ) ∧ (v1 = 8 → Q (μ.1 0 10) μ) ∧ (v1 = 9 → (w_J2_size_120 S μ (fun r5 μ4 => Q r5 μ4))) ∧ (v1 = 10 → Q (μ.1 0 7) μ) ∧ (v1 = 11 → Q (μ.1 0 1) μ) ∧ (v1 = 12 → Q (μ.1 104 6) μ) ∧ (v1 = 13 → Q (μ.1 0 16) μ) ∧ ((¬ v1 = 0) → (¬ v1 = 1) → (¬ v1 = 2) → (¬ v1 = 3) → (¬ v1 = 4) → (¬ v1 = 5) → (¬ v1 = 6) → (¬ v1 = 7) → (¬ v1 = 8) → (¬ v1 = 9) → (¬ v1 = 10) → (¬ v1 = 11) → (¬ v1 = 12) → (¬ v1 = 13) → Q (-1) μ)
abbrev rm_X0_about : Room := { frames := 2, cells := 0, slots := 0, locals := 40 }
theorem mf_X0_about : MFact yX0_about 1 rm_X0_about := ⟨by decide +kernel, rfl, rfl⟩
set_option maxHeartbeats 4000000 in
theorem met_X0_about (l : Launch) (D : va_G) (ac : Nat → ClassId) (ad : Nat → Nat) (S : XS) (hLay : LayOk ad (knX S)) (v1 : Int32) (μ : WS) (Q : Int32 → WS → Prop) (h : w_X0_about S v1 μ Q) : CMet l yX0_about cX0_about 2 (some .int) rm_X0_about D ac ad (knX S) (ExX D ac ad S) [.ref (ad 0), .int v1] μ (qI Q) := by
  refine vv_met (lv := [(0, .ref (ad 0)), (1, .int v1)]) (by decide) hLay exX_ok (Nat.le_of_ble_eq_true rfl) rfl ⟨rfl, rfl⟩ (fun C hC hK hRm hLl hR hM => ?_)
  subst hLl
  have hRo : RoomOk (HPW D ac ad (knX S) (ExX D ac ad S) (vS C)) (vR C) := HPW.room
  unfold w_X0_about at h
  refine vv_iload_n hC dX0_about_0 rfl 1 rfl ?_
  by_cases c1_0 : v1 = 0
  · replace h := h.1 c1_0
    rw [c1_0]
    refine vv_tableIn (tgt := 72) hC dX0_about_1 (by decide) (by decide) rfl rfl ?_
    refine vv_aload_n hC dX0_about_72 rfl 0 rfl ?_
    refine vv_callVi hC hR hK hRo hRm [] [] (met_X0_hands (vL C) D ac ad S hLay  μ _ h) gxX0_138 mf_X0_hands rfl (lx_0 S) rfl rfl rfl rfl dX0_about_73 (fun r3 μ2 h => ?_)
    exact vv_iret hC hM dX0_about_76 h
  · replace h := h.2
    by_cases c1_1 : v1 = 1
    · replace h := h.1 c1_1
      rw [c1_1]
      refine vv_tableIn (tgt := 77) hC dX0_about_1 (by decide) (by decide) rfl rfl ?_
      refine vv_aload_n hC dX0_about_77 rfl 0 rfl ?_
      refine vv_getf hC hR hK fxX0_20_X0 0 (lx_0 S) rfl dX0_about_78 ?_
      refine vv_getf hC hR hK fxX0_147_X1 104 (lx_104 S) rfl dX0_about_81 ?_
      exact vv_iret hC hM dX0_about_84 h
    · replace h := h.2
      by_cases c1_2 : v1 = 2
      · replace h := h.1 c1_2
        rw [c1_2]
        refine vv_tableIn (tgt := 85) hC dX0_about_1 (by decide) (by decide) rfl rfl ?_
        refine vv_aload_n hC dX0_about_85 rfl 0 rfl ?_
        refine vv_getf hC hR hK fxX0_31_X0 0 (lx_0 S) rfl dX0_about_86 ?_
        refine vv_getf hC hR hK fxX0_154_X3 1000 (lx_1000 S) rfl dX0_about_89 ?_
        exact vv_iret hC hM dX0_about_92 h
      · replace h := h.2
        by_cases c1_3 : v1 = 3
        · replace h := h.1 c1_3
          rw [c1_3]
          refine vv_tableIn (tgt := 93) hC dX0_about_1 (by decide) (by decide) rfl rfl ?_
          refine vv_aload_n hC dX0_about_93 rfl 0 rfl ?_
          refine vv_getf hC hR hK fxX0_31_X0 0 (lx_0 S) rfl dX0_about_94 ?_
          refine vv_getf hC hR hK fxX0_180_X3 1000 (lx_1000 S) rfl dX0_about_97 ?_
          exact vv_iret hC hM dX0_about_100 h
        · replace h := h.2
          by_cases c1_4 : v1 = 4
          · replace h := h.1 c1_4
            rw [c1_4]
            refine vv_tableIn (tgt := 101) hC dX0_about_1 (by decide) (by decide) rfl rfl ?_
            refine vv_aload_n hC dX0_about_101 rfl 0 rfl ?_
            refine vv_getf hC hR hK fxX0_31_X0 0 (lx_0 S) rfl dX0_about_102 ?_
            refine vv_getf hC hR hK fxX0_220_X3 1000 (lx_1000 S) rfl dX0_about_105 ?_
            exact vv_iret hC hM dX0_about_108 h
          · replace h := h.2
            by_cases c1_5 : v1 = 5
            · replace h := h.1 c1_5
              rw [c1_5]
              refine vv_tableIn (tgt := 109) hC dX0_about_1 (by decide) (by decide) rfl rfl ?_
              refine vv_aload_n hC dX0_about_109 rfl 0 rfl ?_
              refine vv_getf hC hR hK fxX0_31_X0 0 (lx_0 S) rfl dX0_about_110 ?_
              refine vv_getf hC hR hK fxX0_197_X3 1000 (lx_1000 S) rfl dX0_about_113 ?_
              exact vv_iret hC hM dX0_about_116 h
            · replace h := h.2
              by_cases c1_6 : v1 = 6
              · replace h := h.1 c1_6
                rw [c1_6]
                refine vv_tableIn (tgt := 117) hC dX0_about_1 (by decide) (by decide) rfl rfl ?_
                refine vv_aload_n hC dX0_about_117 rfl 0 rfl ?_
                refine vv_getf hC hR hK fxX0_31_X0 0 (lx_0 S) rfl dX0_about_118 ?_
                refine vv_getf hC hR hK fxX0_226_X3 1000 (lx_1000 S) rfl dX0_about_121 ?_
                exact vv_iret hC hM dX0_about_124 h
              · replace h := h.2
                by_cases c1_7 : v1 = 7
                · replace h := h.1 c1_7
                  rw [c1_7]
                  refine vv_tableIn (tgt := 125) hC dX0_about_1 (by decide) (by decide) rfl rfl ?_
                  refine vv_aload_n hC dX0_about_125 rfl 0 rfl ?_
                  refine vv_getf hC hR hK fxX0_115_X0 0 (lx_0 S) rfl dX0_about_126 ?_
                  exact vv_iret hC hM dX0_about_129 h
                · replace h := h.2
                  by_cases c1_8 : v1 = 8
                  · replace h := h.1 c1_8
                    rw [c1_8]
                    refine vv_tableIn (tgt := 130) hC dX0_about_1 (by decide) (by decide) rfl rfl ?_
                    refine vv_aload_n hC dX0_about_130 rfl 0 rfl ?_
                    refine vv_getf hC hR hK fxX0_118_X0 0 (lx_0 S) rfl dX0_about_131 ?_
                    exact vv_iret hC hM dX0_about_134 h
                  · replace h := h.2
                    by_cases c1_9 : v1 = 9
                    · replace h := h.1 c1_9
                      rw [c1_9]
                      refine vv_tableIn (tgt := 135) hC dX0_about_1 (by decide) (by decide) rfl rfl ?_
                      refine vv_aload_n hC dX0_about_135 rfl 0 rfl ?_
                      refine vv_getf hC hR hK fxX0_74_X0 0 (lx_0 S) rfl dX0_about_136 ?_
                      refine vv_callVi hC hR hK hRo hRm [] [] (met_J2_size_120 (vL C) D ac ad S hLay  μ _ h) gxX0_144 mf_J2_size_120 rfl (lx_120 S) rfl rfl rfl rfl dX0_about_139 (fun r5 μ4 h => ?_)
                      exact vv_iret hC hM dX0_about_142 h
                    · replace h := h.2
                      by_cases c1_10 : v1 = 10
                      · replace h := h.1 c1_10
                        rw [c1_10]
                        refine vv_tableIn (tgt := 143) hC dX0_about_1 (by decide) (by decide) rfl rfl ?_
                        refine vv_aload_n hC dX0_about_143 rfl 0 rfl ?_
                        refine vv_getf hC hR hK fxX0_286_X0 0 (lx_0 S) rfl dX0_about_144 ?_
                        exact vv_iret hC hM dX0_about_147 h
                      · replace h := h.2
                        by_cases c1_11 : v1 = 11
                        · replace h := h.1 c1_11
                          rw [c1_11]
                          refine vv_tableIn (tgt := 148) hC dX0_about_1 (by decide) (by decide) rfl rfl ?_
                          refine vv_aload_n hC dX0_about_148 rfl 0 rfl ?_
                          refine vv_getf hC hR hK fxX0_103_X0 0 (lx_0 S) rfl dX0_about_149 ?_
                          exact vv_iret hC hM dX0_about_152 h
                        · replace h := h.2
                          by_cases c1_12 : v1 = 12
                          · replace h := h.1 c1_12
                            rw [c1_12]
                            refine vv_tableIn (tgt := 153) hC dX0_about_1 (by decide) (by decide) rfl rfl ?_
                            refine vv_aload_n hC dX0_about_153 rfl 0 rfl ?_
                            refine vv_getf hC hR hK fxX0_20_X0 0 (lx_0 S) rfl dX0_about_154 ?_
                            refine vv_getf hC hR hK fxX0_395_X1 104 (lx_104 S) rfl dX0_about_157 ?_
                            exact vv_iret hC hM dX0_about_160 h
                          · replace h := h.2
                            by_cases c1_13 : v1 = 13
                            · replace h := h.1 c1_13
                              rw [c1_13]
                              refine vv_tableIn (tgt := 161) hC dX0_about_1 (by decide) (by decide) rfl rfl ?_
                              refine vv_aload_n hC dX0_about_161 rfl 0 rfl ?_
                              refine vv_getf hC hR hK fxX0_121_X0 0 (lx_0 S) rfl dX0_about_162 ?_
                              exact vv_iret hC hM dX0_about_165 h
                            · replace h := h.2
                              replace h := h c1_0 c1_1 c1_2 c1_3 c1_4 c1_5 c1_6 c1_7 c1_8 c1_9 c1_10 c1_11 c1_12 c1_13
                              by_cases c1_lo : v1.toInt < 0 ∨ 13 < v1.toInt
                              · refine vv_tableOut (tgt := 166) hC dX0_about_1 c1_lo rfl ?_
                                refine vv_iconst hC dX0_about_166 xic_m1 ?_
                                exact vv_iret hC hM dX0_about_167 h
                              · obtain ⟨nn, hn1, hn2⟩ := sw_in (fun q => c1_lo (Or.inl q)) (fun q => c1_lo (Or.inr q))
                                match nn, hn1, hn2 with
                                | 0, _, hn2 => exact absurd (sw_eq (hn2.trans (by decide))) c1_0
                                | 1, _, hn2 => exact absurd (sw_eq (hn2.trans (by decide))) c1_1
                                | 2, _, hn2 => exact absurd (sw_eq (hn2.trans (by decide))) c1_2
                                | 3, _, hn2 => exact absurd (sw_eq (hn2.trans (by decide))) c1_3
                                | 4, _, hn2 => exact absurd (sw_eq (hn2.trans (by decide))) c1_4
                                | 5, _, hn2 => exact absurd (sw_eq (hn2.trans (by decide))) c1_5
                                | 6, _, hn2 => exact absurd (sw_eq (hn2.trans (by decide))) c1_6
                                | 7, _, hn2 => exact absurd (sw_eq (hn2.trans (by decide))) c1_7
                                | 8, _, hn2 => exact absurd (sw_eq (hn2.trans (by decide))) c1_8
                                | 9, _, hn2 => exact absurd (sw_eq (hn2.trans (by decide))) c1_9
                                | 10, _, hn2 => exact absurd (sw_eq (hn2.trans (by decide))) c1_10
                                | 11, _, hn2 => exact absurd (sw_eq (hn2.trans (by decide))) c1_11
                                | 12, _, hn2 => exact absurd (sw_eq (hn2.trans (by decide))) c1_12
                                | 13, _, hn2 => exact absurd (sw_eq (hn2.trans (by decide))) c1_13
                                | q + 14, hn1, _ => exact absurd hn1 (by omega)
