set_option maxRecDepth 100000
def w_X4_turnedRow_34 (P4 : Int32 → Int32 → Int32 → WS → Prop) (v1 : Int32) (v2 : Int32) (v3 : Int32) (μ : WS) (Q : Int32 → WS → Prop) : Prop := P4 v1 v2 (v3 + 1) μ
def w_X4_turnedRow_4b (P4 : Int32 → Int32 → Int32 → WS → Prop) (v1 : Int32) (v2 : Int32) (v3 : Int32) (μ : WS) (Q : Int32 → WS → Prop) : Prop := (w_X4_width μ (fun r2 μ1 => ((r2 ≤ v3) → Q v2 μ1) ∧ ((¬ r2 ≤ v3) → ((¬ (v1 >>> (v3 &&& 31)) &&& 1 = 1) → w_X4_turnedRow_34 P4 v1 v2 v3 μ1 Q) ∧ (((v1 >>> (v3 &&& 31)) &&& 1 = 1) → (w_X4_width μ1 (fun r6 μ5 => (∀ x7 : Int32, x7 = v2 ||| (1 <<< (((r6 - 1) - v3) &&& 31)) → w_X4_turnedRow_34 P4 v1 x7 v3 μ5 Q)))))))
def w_X4_turnedRow_4 (v1 : Int32) (v2 : Int32) (v3 : Int32) (μ : WS) (Q : Int32 → WS → Prop) : Prop := ∀ P4 : Int32 → Int32 → Int32 → WS → Prop, (∀ (v1 : Int32) (v2 : Int32) (v3 : Int32) (μ : WS), w_X4_turnedRow_4b  P4 v1 v2 v3 μ Q → P4 v1 v2 v3 μ) → P4 v1 v2 v3 μ
def w_X4_turnedRow (v1 : Int32) (μ : WS) (Q : Int32 → WS → Prop) : Prop := w_X4_turnedRow_4 v1 0 0 μ Q
abbrev rm_X4_turnedRow : Room := { frames := 1, cells := 0, slots := 0, locals := 20 }
theorem mf_X4_turnedRow : MFact yX4_turnedRow 1 rm_X4_turnedRow := ⟨by decide +kernel, rfl, rfl⟩
set_option maxHeartbeats 4000000 in
theorem met_X4_turnedRow (l : Launch) (D : va_G) (ac : Nat → ClassId) (ad : Nat → Nat) (Ex : Heap → Prop) (hLay : LayOk ad knM) (hEx : ExOk ad knM Ex) (v1 : Int32) (μ : WS) (Q : Int32 → WS → Prop) (h : w_X4_turnedRow v1 μ Q) : CMet l yX4_turnedRow cX4_turnedRow 4 (some .int) rm_X4_turnedRow D ac ad knM Ex [.ref (ad 0), .int v1] μ (qI Q) := by
  refine vv_met (lv := [(0, .ref (ad 0)), (1, .int v1)]) (by decide) hLay hEx (Nat.le_of_ble_eq_true rfl) rfl ⟨rfl, rfl⟩ (fun C hC hK hRm hLl hR hM => ?_)
  subst hLl
  have hRo : RoomOk (HPW D ac ad knM Ex (vS C)) (vR C) := HPW.room
  have L34 : ∀ (P4 : Int32 → Int32 → Int32 → WS → Prop) (h4 : ∀ (v1 : Int32) (v2 : Int32) (v3 : Int32) (μ : WS), P4 v1 v2 v3 μ → VV C 4 (HPW D ac ad knM Ex (vS C)) (vQ C (QcW D ac ad knM (qI Q)) 0 0 (inLay ad knM)) (μ, ()) 4 [(0, .ref (ad 0)), (1, .int v1), (2, .int v2), (3, .int v3)] []) (v1 : Int32) (v2 : Int32) (v3 : Int32) (μ : WS), w_X4_turnedRow_34 P4 v1 v2 v3 μ Q → VV C 4 (HPW D ac ad knM Ex (vS C)) (vQ C (QcW D ac ad knM (qI Q)) 0 0 (inLay ad knM)) (μ, ()) 34 [(0, .ref (ad 0)), (1, .int v1), (2, .int v2), (3, .int v3)] [] := by
    intro P4 h4 v1 v2 v3 μ h
    unfold w_X4_turnedRow_34 at h
    refine vv_iinc (pl := 3) (v := v3 + 1) (lv' := [(3, .int (v3 + 1)), (0, .ref (ad 0)), (1, .int v1), (2, .int v2)]) hC dX4_turnedRow_34 rfl rfl (by decide) rfl ?_
    refine vv_goto (tgt := 4) hC dX4_turnedRow_37 rfl ?_
    refine vv_lv [1, 2, 3, 0] rfl ?_
    exact h4 _ _ _ _ h
  have L4 : ∀ (v1 : Int32) (v2 : Int32) (v3 : Int32) (μ : WS), w_X4_turnedRow_4  v1 v2 v3 μ Q → VV C 4 (HPW D ac ad knM Ex (vS C)) (vQ C (QcW D ac ad knM (qI Q)) 0 0 (inLay ad knM)) (μ, ()) 4 [(0, .ref (ad 0)), (1, .int v1), (2, .int v2), (3, .int v3)] [] := by
    intro  v1 v2 v3 μ h
    refine h (fun v1 v2 v3 μ => VV C 4 (HPW D ac ad knM Ex (vS C)) (vQ C (QcW D ac ad knM (qI Q)) 0 0 (inLay ad knM)) (μ, ()) 4 [(0, .ref (ad 0)), (1, .int v1), (2, .int v2), (3, .int v3)] []) ?_
    clear h; intro v1 v2 v3 μ h
    have h4 : ∀ (v1 : Int32) (v2 : Int32) (v3 : Int32) (μ : WS), (fun v1 v2 v3 (μ : WS) => VV C 4 (HPW D ac ad knM Ex (vS C)) (vQ C (QcW D ac ad knM (qI Q)) 0 0 (inLay ad knM)) (μ, ()) 4 [(0, .ref (ad 0)), (1, .int v1), (2, .int v2), (3, .int v3)] []) v1 v2 v3 μ → VV C 4 (HPW D ac ad knM Ex (vS C)) (vQ C (QcW D ac ad knM (qI Q)) 0 0 (inLay ad knM)) (μ, ()) 4 [(0, .ref (ad 0)), (1, .int v1), (2, .int v2), (3, .int v3)] [] := fun _ _ _ _ h => h
    unfold w_X4_turnedRow_4b at h
    refine vv_iload_n hC dX4_turnedRow_4 rfl 3 rfl ?_
    refine vv_aload_n hC dX4_turnedRow_5 rfl 0 rfl ?_
    refine vv_callVi hC hR hK hRo hRm [] [.int v3] (met_X4_width (vL C) D ac ad Ex hLay hEx  μ _ h) gw4_342 mf_X4_width rfl lm_0 rfl rfl rfl rfl dX4_turnedRow_6 (fun r2 μ1 h => ?_)
    refine vv_icmp_ge (tgt := 40) hC dX4_turnedRow_9 rfl (fun c3 => ?_) (fun c3 => ?_)
    · replace h := h.1 c3
      refine vv_iload_n hC dX4_turnedRow_40 rfl 2 rfl ?_
      exact vv_iret hC hM dX4_turnedRow_41 h
    · replace h := h.2 c3
      refine vv_iload_n hC dX4_turnedRow_12 rfl 1 rfl ?_
      refine vv_iload_n hC dX4_turnedRow_13 rfl 3 rfl ?_
      refine vv_ishr hC dX4_turnedRow_14 ?_
      refine vv_iconst hC dX4_turnedRow_15 ic_1 ?_
      refine vv_iand hC dX4_turnedRow_16 ?_
      refine vv_iconst hC dX4_turnedRow_17 ic_1 ?_
      refine vv_icmp_ne (tgt := 34) hC dX4_turnedRow_18 rfl (fun c4 => ?_) (fun c4 => ?_)
      · replace h := h.1 c4
        exact L34 _ h4 _ _ _ _ h
      · replace h := h.2 c4
        refine vv_iload_n hC dX4_turnedRow_21 rfl 2 rfl ?_
        refine vv_iconst hC dX4_turnedRow_22 ic_1 ?_
        refine vv_aload_n hC dX4_turnedRow_23 rfl 0 rfl ?_
        refine vv_callVi hC hR hK hRo hRm [] [.int 1, .int v2] (met_X4_width (vL C) D ac ad Ex hLay hEx  μ1 _ h) gw4_342 mf_X4_width rfl lm_0 rfl rfl rfl rfl dX4_turnedRow_24 (fun r6 μ5 h => ?_)
        refine vv_iconst hC dX4_turnedRow_27 ic_1 ?_
        refine vv_isub hC dX4_turnedRow_28 ?_
        refine vv_iload_n hC dX4_turnedRow_29 rfl 3 rfl ?_
        refine vv_isub hC dX4_turnedRow_30 ?_
        refine vv_ishl hC dX4_turnedRow_31 ?_
        refine vv_ior hC dX4_turnedRow_32 ?_
        refine vv_topi (fun x7 ex7 => ?_)
        replace h := h x7 ex7
        refine vv_istore_n (lv' := [(2, .int x7), (0, .ref (ad 0)), (1, .int v1), (3, .int v3)]) hC dX4_turnedRow_33 rfl (by decide) rfl ?_
        refine vv_lv [1, 2, 0, 3] rfl ?_
        exact L34 _ h4 _ _ _ _ h
  unfold w_X4_turnedRow at h
  refine vv_iconst hC dX4_turnedRow_0 ic_0 ?_
  refine vv_istore_n (lv' := [(2, .int 0), (0, .ref (ad 0)), (1, .int v1)]) hC dX4_turnedRow_1 rfl (by decide) rfl ?_
  refine vv_iconst hC dX4_turnedRow_2 ic_0 ?_
  refine vv_istore_n (lv' := [(3, .int 0), (2, .int 0), (0, .ref (ad 0)), (1, .int v1)]) hC dX4_turnedRow_3 rfl (by decide) rfl ?_
  refine vv_lv [2, 3, 1, 0] rfl ?_
  exact L4  _ _ _ _ h
def w_X4_turned (v1 : Int32) (μ : WS) (Q : Int32 → WS → Prop) : Prop := (w_X4_isRow v1 μ (fun r2 μ1 => ((r2 = 0) → Q (-1) μ1) ∧ ((¬ r2 = 0) → (w_X4_turnedRow v1 μ1 (fun r5 μ4 => Q r5 μ4)))))
abbrev rm_X4_turned : Room := { frames := 2, cells := 0, slots := 0, locals := 43 }
theorem mf_X4_turned : MFact yX4_turned 1 rm_X4_turned := ⟨by decide +kernel, rfl, rfl⟩
set_option maxHeartbeats 4000000 in
theorem met_X4_turned (l : Launch) (D : va_G) (ac : Nat → ClassId) (ad : Nat → Nat) (Ex : Heap → Prop) (hLay : LayOk ad knM) (hEx : ExOk ad knM Ex) (v1 : Int32) (μ : WS) (Q : Int32 → WS → Prop) (h : w_X4_turned v1 μ Q) : CMet l yX4_turned cX4_turned 2 (some .int) rm_X4_turned D ac ad knM Ex [.ref (ad 0), .int v1] μ (qI Q) := by
  refine vv_met (lv := [(0, .ref (ad 0)), (1, .int v1)]) (by decide) hLay hEx (Nat.le_of_ble_eq_true rfl) rfl ⟨rfl, rfl⟩ (fun C hC hK hRm hLl hR hM => ?_)
  subst hLl
  have hRo : RoomOk (HPW D ac ad knM Ex (vS C)) (vR C) := HPW.room
  unfold w_X4_turned at h
  refine vv_aload_n hC dX4_turned_0 rfl 0 rfl ?_
  refine vv_iload_n hC dX4_turned_1 rfl 1 rfl ?_
  refine vv_callVi hC hR hK hRo hRm [.int v1] [] (met_X4_isRow (vL C) D ac ad Ex hLay hEx v1 μ _ h) gw4_358 mf_X4_isRow rfl lm_0 rfl rfl rfl rfl dX4_turned_2 (fun r2 μ1 h => ?_)
  refine vv_if_eq (tgt := 16) hC dX4_turned_5 rfl (fun c3 => ?_) (fun c3 => ?_)
  · replace h := h.1 c3
    refine vv_iconst hC dX4_turned_16 ic_m1 ?_
    exact vv_iret hC hM dX4_turned_17 h
  · replace h := h.2 c3
    refine vv_aload_n hC dX4_turned_8 rfl 0 rfl ?_
    refine vv_iload_n hC dX4_turned_9 rfl 1 rfl ?_
    refine vv_callVi hC hR hK hRo hRm [.int v1] [] (met_X4_turnedRow (vL C) D ac ad Ex hLay hEx v1 μ1 _ h) gw4_349 mf_X4_turnedRow rfl lm_0 rfl rfl rfl rfl dX4_turned_10 (fun r5 μ4 h => ?_)
    refine vv_goto (tgt := 17) hC dX4_turned_13 rfl ?_
    exact vv_iret hC hM dX4_turned_17 h
def w_X4_isIn (v0 : Int32) (v1 : Int32) (v2 : Int32) (μ : WS) (Q : Int32 → WS → Prop) : Prop := ((v0 < v1) → Q 0 μ) ∧ ((¬ v0 < v1) → ((v2 < v0) → Q 0 μ) ∧ ((¬ v2 < v0) → Q 1 μ))
abbrev rm_X4_isIn : Room := { frames := 0, cells := 0, slots := 0, locals := 0 }
theorem mf_X4_isIn : MFact yX4_isIn 3 rm_X4_isIn := ⟨by decide +kernel, rfl, rfl⟩
set_option maxHeartbeats 4000000 in
theorem met_X4_isIn (l : Launch) (D : va_G) (ac : Nat → ClassId) (ad : Nat → Nat) (Ex : Heap → Prop) (hLay : LayOk ad knM) (hEx : ExOk ad knM Ex) (v0 : Int32) (v1 : Int32) (v2 : Int32) (μ : WS) (Q : Int32 → WS → Prop) (h : w_X4_isIn v0 v1 v2 μ Q) : CMet l yX4_isIn cX4_isIn 3 (some .boolean) rm_X4_isIn D ac ad knM Ex [.int v0, .int v1, .int v2] μ (qI Q) := by
  refine vv_met (lv := [(0, .int v0), (1, .int v1), (2, .int v2)]) (by decide) hLay hEx (Nat.le_of_ble_eq_true rfl) rfl ⟨rfl, rfl⟩ (fun C hC hK hRm hLl hR hM => ?_)
  subst hLl
  have hRo : RoomOk (HPW D ac ad knM Ex (vS C)) (vR C) := HPW.room
  unfold w_X4_isIn at h
  refine vv_iload_n hC dX4_isIn_0 rfl 0 rfl ?_
  refine vv_iload_n hC dX4_isIn_1 rfl 1 rfl ?_
  refine vv_icmp_lt (tgt := 14) hC dX4_isIn_2 rfl (fun c1 => ?_) (fun c1 => ?_)
  · replace h := h.1 c1
    refine vv_iconst hC dX4_isIn_14 ic_0 ?_
    exact vv_zret hC hM dX4_isIn_15 isB_0 h
  · replace h := h.2 c1
    refine vv_iload_n hC dX4_isIn_5 rfl 0 rfl ?_
    refine vv_iload_n hC dX4_isIn_6 rfl 2 rfl ?_
    refine vv_icmp_gt (tgt := 14) hC dX4_isIn_7 rfl (fun c2 => ?_) (fun c2 => ?_)
    · replace h := h.1 c2
      refine vv_iconst hC dX4_isIn_14 ic_0 ?_
      exact vv_zret hC hM dX4_isIn_15 isB_0 h
    · replace h := h.2 c2
      refine vv_iconst hC dX4_isIn_10 ic_1 ?_
      refine vv_goto (tgt := 15) hC dX4_isIn_11 rfl ?_
      exact vv_zret hC hM dX4_isIn_15 isB_1 h
def w_X4_isHand (v1 : Int32) (μ : WS) (Q : Int32 → WS → Prop) : Prop := (vp_in (μ.1 0 29) 2 ∧ (w_X4_isIn v1 0 ((μ.1 5 (μ.1 0 29).toNatClampNeg) - 1) μ (fun r2 μ1 => isB r2 ∧ Q r2 μ1)))
abbrev rm_X4_isHand : Room := { frames := 1, cells := 0, slots := 0, locals := 22 }
theorem mf_X4_isHand : MFact yX4_isHand 1 rm_X4_isHand := ⟨by decide +kernel, rfl, rfl⟩
set_option maxHeartbeats 4000000 in
theorem met_X4_isHand (l : Launch) (D : va_G) (ac : Nat → ClassId) (ad : Nat → Nat) (Ex : Heap → Prop) (hLay : LayOk ad knM) (hEx : ExOk ad knM Ex) (v1 : Int32) (μ : WS) (Q : Int32 → WS → Prop) (h : w_X4_isHand v1 μ Q) : CMet l yX4_isHand cX4_isHand 2 (some .boolean) rm_X4_isHand D ac ad knM Ex [.ref (ad 0), .int v1] μ (qI Q) := by
  refine vv_met (lv := [(0, .ref (ad 0)), (1, .int v1)]) (by decide) hLay hEx (Nat.le_of_ble_eq_true rfl) rfl ⟨rfl, rfl⟩ (fun C hC hK hRm hLl hR hM => ?_)
  subst hLl
  have hRo : RoomOk (HPW D ac ad knM Ex (vS C)) (vR C) := HPW.room
  unfold w_X4_isHand at h
  refine vv_iload_n hC dX4_isHand_0 rfl 1 rfl ?_
  refine vv_iconst hC dX4_isHand_1 ic_0 ?_
  refine vv_aload_n hC dX4_isHand_2 rfl 0 rfl ?_
  refine vv_getf hC hR hK fa4_27 0 lm_0 (fm_13 ad _ _ _) dX4_isHand_3 ?_
  refine vv_aload_n hC dX4_isHand_6 rfl 0 rfl ?_
  refine vv_getf hC hR hK fa4_250 0 lm_0 (fm_29 ad _ _ _) dX4_isHand_7 ?_
  obtain ⟨hin, h⟩ := h
  refine vv_iald hC hR hK 5 lm_5 hin dX4_isHand_10 ?_
  refine vv_iconst hC dX4_isHand_11 ic_1 ?_
  refine vv_isub hC dX4_isHand_12 ?_
  refine vv_callSi hC hR hK hRo hRm [.int v1, .int 0, .int ((μ.1 5 (μ.1 0 29).toNatClampNeg) - 1)] [] (met_X4_isIn (vL C) D ac ad Ex hLay hEx v1 0 ((μ.1 5 (μ.1 0 29).toNatClampNeg) - 1) μ _ h) gw4_345 mf_X4_isIn rfl rfl rfl dX4_isHand_13 (fun r2 μ1 h => ?_)
  exact vv_zret hC hM dX4_isHand_16 h.1 h.2
def w_X4_isHeat (v0 : Int32) (μ : WS) (Q : Int32 → WS → Prop) : Prop := (w_X4_isIn v0 0 9 μ (fun r2 μ1 => isB r2 ∧ Q r2 μ1))
abbrev rm_X4_isHeat : Room := { frames := 1, cells := 0, slots := 0, locals := 22 }
theorem mf_X4_isHeat : MFact yX4_isHeat 1 rm_X4_isHeat := ⟨by decide +kernel, rfl, rfl⟩
set_option maxHeartbeats 4000000 in
theorem met_X4_isHeat (l : Launch) (D : va_G) (ac : Nat → ClassId) (ad : Nat → Nat) (Ex : Heap → Prop) (hLay : LayOk ad knM) (hEx : ExOk ad knM Ex) (v0 : Int32) (μ : WS) (Q : Int32 → WS → Prop) (h : w_X4_isHeat v0 μ Q) : CMet l yX4_isHeat cX4_isHeat 1 (some .boolean) rm_X4_isHeat D ac ad knM Ex [.int v0] μ (qI Q) := by
  refine vv_met (lv := [(0, .int v0)]) (by decide) hLay hEx (Nat.le_of_ble_eq_true rfl) rfl ⟨rfl, rfl⟩ (fun C hC hK hRm hLl hR hM => ?_)
  subst hLl
  have hRo : RoomOk (HPW D ac ad knM Ex (vS C)) (vR C) := HPW.room
  unfold w_X4_isHeat at h
  refine vv_iload_n hC dX4_isHeat_0 rfl 0 rfl ?_
  refine vv_iconst hC dX4_isHeat_1 ic_0 ?_
  refine vv_bipush hC dX4_isHeat_2 bp_9 ?_
  refine vv_callSi hC hR hK hRo hRm [.int v0, .int 0, .int 9] [] (met_X4_isIn (vL C) D ac ad Ex hLay hEx v0 0 9 μ _ h) gw4_345 mf_X4_isIn rfl rfl rfl dX4_isHeat_4 (fun r2 μ1 h => ?_)
  exact vv_zret hC hM dX4_isHeat_7 h.1 h.2
def w_X4_bitsOf_4b (P4 : Int32 → Int32 → WS → Prop) (v1 : Int32) (v2 : Int32) (μ : WS) (Q : Int32 → WS → Prop) : Prop := ((v2 = 0) → Q v1 μ) ∧ ((¬ v2 = 0) → (∀ x2 : Int32, x2 = v2 &&& (v2 - 1) → P4 (v1 + 1) x2 μ))
def w_X4_bitsOf_4 (v1 : Int32) (v2 : Int32) (μ : WS) (Q : Int32 → WS → Prop) : Prop := ∀ P4 : Int32 → Int32 → WS → Prop, (∀ (v1 : Int32) (v2 : Int32) (μ : WS), w_X4_bitsOf_4b  P4 v1 v2 μ Q → P4 v1 v2 μ) → P4 v1 v2 μ
def w_X4_bitsOf (v0 : Int32) (μ : WS) (Q : Int32 → WS → Prop) : Prop := w_X4_bitsOf_4 0 v0 μ Q
abbrev rm_X4_bitsOf : Room := { frames := 0, cells := 0, slots := 0, locals := 0 }
theorem mf_X4_bitsOf : MFact yX4_bitsOf 1 rm_X4_bitsOf := ⟨by decide +kernel, rfl, rfl⟩
set_option maxHeartbeats 4000000 in
theorem met_X4_bitsOf (l : Launch) (D : va_G) (ac : Nat → ClassId) (ad : Nat → Nat) (Ex : Heap → Prop) (hLay : LayOk ad knM) (hEx : ExOk ad knM Ex) (v0 : Int32) (μ : WS) (Q : Int32 → WS → Prop) (h : w_X4_bitsOf v0 μ Q) : CMet l yX4_bitsOf cX4_bitsOf 3 (some .int) rm_X4_bitsOf D ac ad knM Ex [.int v0] μ (qI Q) := by
  refine vv_met (lv := [(0, .int v0)]) (by decide) hLay hEx (Nat.le_of_ble_eq_true rfl) rfl ⟨rfl, rfl⟩ (fun C hC hK hRm hLl hR hM => ?_)
  subst hLl
  have hRo : RoomOk (HPW D ac ad knM Ex (vS C)) (vR C) := HPW.room
  have L4 : ∀ (v1 : Int32) (v2 : Int32) (μ : WS), w_X4_bitsOf_4  v1 v2 μ Q → VV C 3 (HPW D ac ad knM Ex (vS C)) (vQ C (QcW D ac ad knM (qI Q)) 0 0 (inLay ad knM)) (μ, ()) 4 [(1, .int v1), (2, .int v2)] [] := by
    intro  v1 v2 μ h
    refine h (fun v1 v2 μ => VV C 3 (HPW D ac ad knM Ex (vS C)) (vQ C (QcW D ac ad knM (qI Q)) 0 0 (inLay ad knM)) (μ, ()) 4 [(1, .int v1), (2, .int v2)] []) ?_
    clear h; intro v1 v2 μ h
    have h4 : ∀ (v1 : Int32) (v2 : Int32) (μ : WS), (fun v1 v2 (μ : WS) => VV C 3 (HPW D ac ad knM Ex (vS C)) (vQ C (QcW D ac ad knM (qI Q)) 0 0 (inLay ad knM)) (μ, ()) 4 [(1, .int v1), (2, .int v2)] []) v1 v2 μ → VV C 3 (HPW D ac ad knM Ex (vS C)) (vQ C (QcW D ac ad knM (qI Q)) 0 0 (inLay ad knM)) (μ, ()) 4 [(1, .int v1), (2, .int v2)] [] := fun _ _ _ h => h
    unfold w_X4_bitsOf_4b at h
    refine vv_iload_n hC dX4_bitsOf_4 rfl 1 rfl ?_
    refine vv_if_eq (tgt := 20) hC dX4_bitsOf_5 rfl (fun c1 => ?_) (fun c1 => ?_)
    · replace h := h.1 c1
      refine vv_iload_n hC dX4_bitsOf_20 rfl 0 rfl ?_
      exact vv_iret hC hM dX4_bitsOf_21 h
    · replace h := h.2 c1
      refine vv_iinc (pl := 0) (v := v1 + 1) (lv' := [(1, .int (v1 + 1)), (2, .int v2)]) hC dX4_bitsOf_8 rfl rfl (by decide) rfl ?_
      refine vv_iload_n hC dX4_bitsOf_11 rfl 1 rfl ?_
      refine vv_iload_n hC dX4_bitsOf_12 rfl 1 rfl ?_
      refine vv_iconst hC dX4_bitsOf_13 ic_1 ?_
      refine vv_isub hC dX4_bitsOf_14 ?_
      refine vv_iand hC dX4_bitsOf_15 ?_
      refine vv_topi (fun x2 ex2 => ?_)
      replace h := h x2 ex2
      refine vv_istore_n (lv' := [(2, .int x2), (1, .int (v1 + 1))]) hC dX4_bitsOf_16 rfl (by decide) rfl ?_
      refine vv_goto (tgt := 4) hC dX4_bitsOf_17 rfl ?_
      refine vv_lv [1, 0] rfl ?_
      exact h4 _ _ _ h
  unfold w_X4_bitsOf at h
  refine vv_iconst hC dX4_bitsOf_0 ic_0 ?_
  refine vv_istore_n (lv' := [(1, .int 0), (0, .int v0)]) hC dX4_bitsOf_1 rfl (by decide) rfl ?_
  refine vv_iload_n hC dX4_bitsOf_2 rfl 1 rfl ?_
  refine vv_istore_n (lv' := [(2, .int v0), (1, .int 0), (0, .int v0)]) hC dX4_bitsOf_3 rfl (by decide) rfl ?_
  refine vv_lv [1, 0] rfl ?_
  exact L4  _ _ _ h
def w_X4_asked (v1 : Int32) (v2 : Int32) (μ : WS) (Q : Int32 → WS → Prop) : Prop := (v1 = 100 → Q (μ.1 0 39) μ) ∧ (v1 = 104 → Q (((μ.1 0 35) >>> ((μ.1 0 36) &&& 31)) &&& 1) μ) ∧ (v1 = 106 → Q (μ.1 21 219) μ) ∧ (v1 = 108 → ((μ.1 0 36 ≤ 0) → Q 0 μ) ∧ ((¬ μ.1 0 36 ≤ 0) → Q (((μ.1 0 35) >>> (((μ.1 0 36) - 1) &&& 31)) &&& 1) μ)) ∧ (v1 = 109 → Q (μ.1 0 36) μ) ∧ (v1 = 114 → Q (((μ.1 0 35) >>> (((μ.1 0 36) + 1) &&& 31)) &&& 1) μ) ∧ (v1 = 116 → Q (μ.1 0 38) μ) ∧ (v1 = 121 → Q (μ.1 0 37) μ) ∧ ((¬ v1 = 100) → (¬ v1 = 104) → (¬ v1 = 106) → (¬ v1 = 108) → (¬ v1 = 109) → (¬ v1 = 114) → (¬ v1 = 116) → (¬ v1 = 121) → Q v2 μ)
abbrev rm_X4_asked : Room := { frames := 0, cells := 0, slots := 0, locals := 0 }
theorem mf_X4_asked : MFact yX4_asked 2 rm_X4_asked := ⟨by decide +kernel, rfl, rfl⟩
set_option maxHeartbeats 4000000 in
theorem met_X4_asked (l : Launch) (D : va_G) (ac : Nat → ClassId) (ad : Nat → Nat) (Ex : Heap → Prop) (hLay : LayOk ad knM) (hEx : ExOk ad knM Ex) (v1 : Int32) (v2 : Int32) (μ : WS) (Q : Int32 → WS → Prop) (h : w_X4_asked v1 v2 μ Q) : CMet l yX4_asked cX4_asked 3 (some .int) rm_X4_asked D ac ad knM Ex [.ref (ad 0), .int v1, .int v2] μ (qI Q) := by
  refine vv_met (lv := [(0, .ref (ad 0)), (1, .int v1), (2, .int v2)]) (by decide) hLay hEx (Nat.le_of_ble_eq_true rfl) rfl ⟨rfl, rfl⟩ (fun C hC hK hRm hLl hR hM => ?_)
  subst hLl
  have hRo : RoomOk (HPW D ac ad knM Ex (vS C)) (vR C) := HPW.room
  unfold w_X4_asked at h
  refine vv_iload_n hC dX4_asked_0 rfl 1 rfl ?_
  by_cases c1_0 : v1 = 100
  · replace h := h.1 c1_0
    rw [c1_0]
    refine vv_tableIn (tgt := 179) hC dX4_asked_1 (by decide) (by decide) rfl rfl ?_
    refine vv_aload_n hC dX4_asked_179 rfl 0 rfl ?_
    refine vv_getf hC hR hK fa4_332 0 lm_0 (fm_39 ad _ _ _) dX4_asked_180 ?_
    exact vv_iret hC hM dX4_asked_183 h
  · replace h := h.2
    by_cases c1_1 : v1 = 104
    · replace h := h.1 c1_1
      rw [c1_1]
      refine vv_tableIn (tgt := 109) hC dX4_asked_1 (by decide) (by decide) rfl rfl ?_
      refine vv_aload_n hC dX4_asked_109 rfl 0 rfl ?_
      refine vv_getf hC hR hK fa4_323 0 lm_0 (fm_35 ad _ _ _) dX4_asked_110 ?_
      refine vv_aload_n hC dX4_asked_113 rfl 0 rfl ?_
      refine vv_getf hC hR hK fa4_320 0 lm_0 (fm_36 ad _ _ _) dX4_asked_114 ?_
      refine vv_ishr hC dX4_asked_117 ?_
      refine vv_iconst hC dX4_asked_118 ic_1 ?_
      refine vv_iand hC dX4_asked_119 ?_
      exact vv_iret hC hM dX4_asked_120 h
    · replace h := h.2
      by_cases c1_2 : v1 = 106
      · replace h := h.1 c1_2
        rw [c1_2]
        refine vv_tableIn (tgt := 165) hC dX4_asked_1 (by decide) (by decide) rfl rfl ?_
        refine vv_aload_n hC dX4_asked_165 rfl 0 rfl ?_
        refine vv_getf hC hR hK fa4_77 0 lm_0 (fm_40 ad _ _ _) dX4_asked_166 ?_
        refine vv_sipush hC dX4_asked_169 sp_219 ?_
        refine vv_iald hC hR hK 21 lm_21 vin_219_221 dX4_asked_172 ?_
        exact vv_iret hC hM dX4_asked_173 h
      · replace h := h.2
        by_cases c1_3 : v1 = 108
        · replace h := h.1 c1_3
          rw [c1_3]
          refine vv_tableIn (tgt := 121) hC dX4_asked_1 (by decide) (by decide) rfl rfl ?_
          refine vv_aload_n hC dX4_asked_121 rfl 0 rfl ?_
          refine vv_getf hC hR hK fa4_320 0 lm_0 (fm_36 ad _ _ _) dX4_asked_122 ?_
          refine vv_if_le (tgt := 144) hC dX4_asked_125 rfl (fun c2 => ?_) (fun c2 => ?_)
          · replace h := h.1 c2
            refine vv_iconst hC dX4_asked_144 ic_0 ?_
            exact vv_iret hC hM dX4_asked_145 h
          · replace h := h.2 c2
            refine vv_aload_n hC dX4_asked_128 rfl 0 rfl ?_
            refine vv_getf hC hR hK fa4_323 0 lm_0 (fm_35 ad _ _ _) dX4_asked_129 ?_
            refine vv_aload_n hC dX4_asked_132 rfl 0 rfl ?_
            refine vv_getf hC hR hK fa4_320 0 lm_0 (fm_36 ad _ _ _) dX4_asked_133 ?_
            refine vv_iconst hC dX4_asked_136 ic_1 ?_
            refine vv_isub hC dX4_asked_137 ?_
            refine vv_ishr hC dX4_asked_138 ?_
            refine vv_iconst hC dX4_asked_139 ic_1 ?_
            refine vv_iand hC dX4_asked_140 ?_
            refine vv_goto (tgt := 145) hC dX4_asked_141 rfl ?_
            exact vv_iret hC hM dX4_asked_145 h
        · replace h := h.2
          by_cases c1_4 : v1 = 109
          · replace h := h.1 c1_4
            rw [c1_4]
            refine vv_tableIn (tgt := 104) hC dX4_asked_1 (by decide) (by decide) rfl rfl ?_
            refine vv_aload_n hC dX4_asked_104 rfl 0 rfl ?_
            refine vv_getf hC hR hK fa4_320 0 lm_0 (fm_36 ad _ _ _) dX4_asked_105 ?_
            exact vv_iret hC hM dX4_asked_108 h
          · replace h := h.2
            by_cases c1_5 : v1 = 114
            · replace h := h.1 c1_5
              rw [c1_5]
              refine vv_tableIn (tgt := 146) hC dX4_asked_1 (by decide) (by decide) rfl rfl ?_
              refine vv_aload_n hC dX4_asked_146 rfl 0 rfl ?_
              refine vv_getf hC hR hK fa4_323 0 lm_0 (fm_35 ad _ _ _) dX4_asked_147 ?_
              refine vv_aload_n hC dX4_asked_150 rfl 0 rfl ?_
              refine vv_getf hC hR hK fa4_320 0 lm_0 (fm_36 ad _ _ _) dX4_asked_151 ?_
              refine vv_iconst hC dX4_asked_154 ic_1 ?_
              refine vv_iadd hC dX4_asked_155 ?_
              refine vv_ishr hC dX4_asked_156 ?_
              refine vv_iconst hC dX4_asked_157 ic_1 ?_
              refine vv_iand hC dX4_asked_158 ?_
              exact vv_iret hC hM dX4_asked_159 h
            · replace h := h.2
              by_cases c1_6 : v1 = 116
              · replace h := h.1 c1_6
                rw [c1_6]
                refine vv_tableIn (tgt := 174) hC dX4_asked_1 (by decide) (by decide) rfl rfl ?_
                refine vv_aload_n hC dX4_asked_174 rfl 0 rfl ?_
                refine vv_getf hC hR hK fa4_329 0 lm_0 (fm_38 ad _ _ _) dX4_asked_175 ?_
                exact vv_iret hC hM dX4_asked_178 h
              · replace h := h.2
                by_cases c1_7 : v1 = 121
                · replace h := h.1 c1_7
                  rw [c1_7]
                  refine vv_tableIn (tgt := 160) hC dX4_asked_1 (by decide) (by decide) rfl rfl ?_
                  refine vv_aload_n hC dX4_asked_160 rfl 0 rfl ?_
                  refine vv_getf hC hR hK fa4_326 0 lm_0 (fm_37 ad _ _ _) dX4_asked_161 ?_
                  exact vv_iret hC hM dX4_asked_164 h
                · replace h := h.2
                  replace h := h c1_0 c1_1 c1_2 c1_3 c1_4 c1_5 c1_6 c1_7
                  by_cases c1_lo : v1.toInt < 100 ∨ 121 < v1.toInt
                  · refine vv_tableOut (tgt := 184) hC dX4_asked_1 c1_lo rfl ?_
                    refine vv_iload_n hC dX4_asked_184 rfl 2 rfl ?_
                    exact vv_iret hC hM dX4_asked_185 h
                  · obtain ⟨nn, hn1, hn2⟩ := sw_in (fun q => c1_lo (Or.inl q)) (fun q => c1_lo (Or.inr q))
                    match nn, hn1, hn2 with
                    | 0, _, hn2 => exact absurd (sw_eq (hn2.trans (by decide))) c1_0
                    | 1, _, hn2 =>
                      have ea : v1 = 101 := sw_eq (hn2.trans (by decide))
                      rw [ea]
                      refine vv_tableIn (tgt := 184) hC dX4_asked_1 (by decide) (by decide) rfl rfl ?_
                      refine vv_iload_n hC dX4_asked_184 rfl 2 rfl ?_
                      exact vv_iret hC hM dX4_asked_185 h
                    | 2, _, hn2 =>
                      have ea : v1 = 102 := sw_eq (hn2.trans (by decide))
                      rw [ea]
                      refine vv_tableIn (tgt := 184) hC dX4_asked_1 (by decide) (by decide) rfl rfl ?_
                      refine vv_iload_n hC dX4_asked_184 rfl 2 rfl ?_
                      exact vv_iret hC hM dX4_asked_185 h
                    | 3, _, hn2 =>
                      have ea : v1 = 103 := sw_eq (hn2.trans (by decide))
                      rw [ea]
                      refine vv_tableIn (tgt := 184) hC dX4_asked_1 (by decide) (by decide) rfl rfl ?_
                      refine vv_iload_n hC dX4_asked_184 rfl 2 rfl ?_
                      exact vv_iret hC hM dX4_asked_185 h
                    | 4, _, hn2 => exact absurd (sw_eq (hn2.trans (by decide))) c1_1
                    | 5, _, hn2 =>
                      have ea : v1 = 105 := sw_eq (hn2.trans (by decide))
                      rw [ea]
                      refine vv_tableIn (tgt := 184) hC dX4_asked_1 (by decide) (by decide) rfl rfl ?_
                      refine vv_iload_n hC dX4_asked_184 rfl 2 rfl ?_
                      exact vv_iret hC hM dX4_asked_185 h
                    | 6, _, hn2 => exact absurd (sw_eq (hn2.trans (by decide))) c1_2
                    | 7, _, hn2 =>
                      have ea : v1 = 107 := sw_eq (hn2.trans (by decide))
                      rw [ea]
                      refine vv_tableIn (tgt := 184) hC dX4_asked_1 (by decide) (by decide) rfl rfl ?_
                      refine vv_iload_n hC dX4_asked_184 rfl 2 rfl ?_
                      exact vv_iret hC hM dX4_asked_185 h
                    | 8, _, hn2 => exact absurd (sw_eq (hn2.trans (by decide))) c1_3
                    | 9, _, hn2 => exact absurd (sw_eq (hn2.trans (by decide))) c1_4
                    | 10, _, hn2 =>
                      have ea : v1 = 110 := sw_eq (hn2.trans (by decide))
                      rw [ea]
                      refine vv_tableIn (tgt := 184) hC dX4_asked_1 (by decide) (by decide) rfl rfl ?_
                      refine vv_iload_n hC dX4_asked_184 rfl 2 rfl ?_
                      exact vv_iret hC hM dX4_asked_185 h
                    | 11, _, hn2 =>
                      have ea : v1 = 111 := sw_eq (hn2.trans (by decide))
                      rw [ea]
                      refine vv_tableIn (tgt := 184) hC dX4_asked_1 (by decide) (by decide) rfl rfl ?_
                      refine vv_iload_n hC dX4_asked_184 rfl 2 rfl ?_
                      exact vv_iret hC hM dX4_asked_185 h
                    | 12, _, hn2 =>
                      have ea : v1 = 112 := sw_eq (hn2.trans (by decide))
                      rw [ea]
                      refine vv_tableIn (tgt := 184) hC dX4_asked_1 (by decide) (by decide) rfl rfl ?_
                      refine vv_iload_n hC dX4_asked_184 rfl 2 rfl ?_
                      exact vv_iret hC hM dX4_asked_185 h
                    | 13, _, hn2 =>
                      have ea : v1 = 113 := sw_eq (hn2.trans (by decide))
                      rw [ea]
                      refine vv_tableIn (tgt := 184) hC dX4_asked_1 (by decide) (by decide) rfl rfl ?_
                      refine vv_iload_n hC dX4_asked_184 rfl 2 rfl ?_
                      exact vv_iret hC hM dX4_asked_185 h
                    | 14, _, hn2 => exact absurd (sw_eq (hn2.trans (by decide))) c1_5
                    | 15, _, hn2 =>
                      have ea : v1 = 115 := sw_eq (hn2.trans (by decide))
                      rw [ea]
                      refine vv_tableIn (tgt := 184) hC dX4_asked_1 (by decide) (by decide) rfl rfl ?_
                      refine vv_iload_n hC dX4_asked_184 rfl 2 rfl ?_
                      exact vv_iret hC hM dX4_asked_185 h
                    | 16, _, hn2 => exact absurd (sw_eq (hn2.trans (by decide))) c1_6
                    | 17, _, hn2 =>
                      have ea : v1 = 117 := sw_eq (hn2.trans (by decide))
                      rw [ea]
                      refine vv_tableIn (tgt := 184) hC dX4_asked_1 (by decide) (by decide) rfl rfl ?_
                      refine vv_iload_n hC dX4_asked_184 rfl 2 rfl ?_
                      exact vv_iret hC hM dX4_asked_185 h
                    | 18, _, hn2 =>
                      have ea : v1 = 118 := sw_eq (hn2.trans (by decide))
                      rw [ea]
                      refine vv_tableIn (tgt := 184) hC dX4_asked_1 (by decide) (by decide) rfl rfl ?_
                      refine vv_iload_n hC dX4_asked_184 rfl 2 rfl ?_
                      exact vv_iret hC hM dX4_asked_185 h
                    | 19, _, hn2 =>
                      have ea : v1 = 119 := sw_eq (hn2.trans (by decide))
                      rw [ea]
                      refine vv_tableIn (tgt := 184) hC dX4_asked_1 (by decide) (by decide) rfl rfl ?_
                      refine vv_iload_n hC dX4_asked_184 rfl 2 rfl ?_
                      exact vv_iret hC hM dX4_asked_185 h
                    | 20, _, hn2 =>
                      have ea : v1 = 120 := sw_eq (hn2.trans (by decide))
                      rw [ea]
                      refine vv_tableIn (tgt := 184) hC dX4_asked_1 (by decide) (by decide) rfl rfl ?_
                      refine vv_iload_n hC dX4_asked_184 rfl 2 rfl ?_
                      exact vv_iret hC hM dX4_asked_185 h
                    | 21, _, hn2 => exact absurd (sw_eq (hn2.trans (by decide))) c1_7
                    | q + 22, hn1, _ => exact absurd hn1 (by omega)
def w_X4_two (v0 : Int32) (v1 : Int32) (v2 : Int32) (μ : WS) (Q : Int32 → WS → Prop) : Prop := (v0 = 37 → ((¬ v2 = 0) → (¬ v2 = 0 ∧ Q (v1 - v1 / v2 * v2) μ)) ∧ ((v2 = 0) → Q 0 μ)) ∧ (v0 = 38 → ((v1 = 0) → Q 0 μ) ∧ ((¬ v1 = 0) → ((v2 = 0) → Q 0 μ) ∧ ((¬ v2 = 0) → Q 1 μ))) ∧ (v0 = 42 → Q (v1 * v2) μ) ∧ (v0 = 43 → Q (v1 + v2) μ) ∧ (v0 = 45 → Q (v1 - v2) μ) ∧ (v0 = 47 → ((¬ v2 = 0) → (¬ v2 = 0 ∧ Q (v1 / v2) μ)) ∧ ((v2 = 0) → Q 0 μ)) ∧ (v0 = 60 → ((v2 ≤ v1) → Q 0 μ) ∧ ((¬ v2 ≤ v1) → Q 1 μ)) ∧ (v0 = 61 → ((¬ v1 = v2) → Q 0 μ) ∧ ((v1 = v2) → Q 1 μ)) ∧ (v0 = 62 → ((v1 ≤ v2) → Q 0 μ) ∧ ((¬ v1 ≤ v2) → Q 1 μ)) ∧ ((¬ v0 = 37) → (¬ v0 = 38) → (¬ v0 = 42) → (¬ v0 = 43) → (¬ v0 = 45) → (¬ v0 = 47) → (¬ v0 = 60) → (¬ v0 = 61) → (¬ v0 = 62) → ((¬ v1 = 0) → Q 1 μ) ∧ ((v1 = 0) → ((v2 = 0) → Q 0 μ) ∧ ((¬ v2 = 0) → Q 1 μ)))
abbrev rm_X4_two : Room := { frames := 0, cells := 0, slots := 0, locals := 0 }
theorem mf_X4_two : MFact yX4_two 3 rm_X4_two := ⟨by decide +kernel, rfl, rfl⟩
set_option maxHeartbeats 4000000 in
theorem met_X4_two (l : Launch) (D : va_G) (ac : Nat → ClassId) (ad : Nat → Nat) (Ex : Heap → Prop) (hLay : LayOk ad knM) (hEx : ExOk ad knM Ex) (v0 : Int32) (v1 : Int32) (v2 : Int32) (μ : WS) (Q : Int32 → WS → Prop) (h : w_X4_two v0 v1 v2 μ Q) : CMet l yX4_two cX4_two 3 (some .int) rm_X4_two D ac ad knM Ex [.int v0, .int v1, .int v2] μ (qI Q) := by
  refine vv_met (lv := [(0, .int v0), (1, .int v1), (2, .int v2)]) (by decide) hLay hEx (Nat.le_of_ble_eq_true rfl) rfl ⟨rfl, rfl⟩ (fun C hC hK hRm hLl hR hM => ?_)
  subst hLl
  have hRo : RoomOk (HPW D ac ad knM Ex (vS C)) (vR C) := HPW.room
  unfold w_X4_two at h
  refine vv_iload_n hC dX4_two_0 rfl 0 rfl ?_
  by_cases c1_0 : v0 = 37
  · replace h := h.1 c1_0
    rw [c1_0]
    refine vv_tableIn (tgt := 144) hC dX4_two_1 (by decide) (by decide) rfl rfl ?_
    refine vv_iload_n hC dX4_two_144 rfl 2 rfl ?_
    refine vv_if_ne (tgt := 152) hC dX4_two_145 rfl (fun c2 => ?_) (fun c2 => ?_)
    · replace h := h.1 c2
      refine vv_iload_n hC dX4_two_152 rfl 1 rfl ?_
      refine vv_iload_n hC dX4_two_153 rfl 2 rfl ?_
      obtain ⟨hne, h⟩ := h
      refine vv_irem hC dX4_two_154 hne ?_
      exact vv_iret hC hM dX4_two_155 h
    · replace h := h.2 c2
      refine vv_iconst hC dX4_two_148 ic_0 ?_
      refine vv_goto (tgt := 155) hC dX4_two_149 rfl ?_
      exact vv_iret hC hM dX4_two_155 h
  · replace h := h.2
    by_cases c1_1 : v0 = 38
    · replace h := h.1 c1_1
      rw [c1_1]
      refine vv_tableIn (tgt := 189) hC dX4_two_1 (by decide) (by decide) rfl rfl ?_
      refine vv_iload_n hC dX4_two_189 rfl 1 rfl ?_
      refine vv_if_eq (tgt := 201) hC dX4_two_190 rfl (fun c3 => ?_) (fun c3 => ?_)
      · replace h := h.1 c3
        refine vv_iconst hC dX4_two_201 ic_0 ?_
        exact vv_iret hC hM dX4_two_202 h
      · replace h := h.2 c3
        refine vv_iload_n hC dX4_two_193 rfl 2 rfl ?_
        refine vv_if_eq (tgt := 201) hC dX4_two_194 rfl (fun c4 => ?_) (fun c4 => ?_)
        · replace h := h.1 c4
          refine vv_iconst hC dX4_two_201 ic_0 ?_
          exact vv_iret hC hM dX4_two_202 h
        · replace h := h.2 c4
          refine vv_iconst hC dX4_two_197 ic_1 ?_
          refine vv_goto (tgt := 202) hC dX4_two_198 rfl ?_
          exact vv_iret hC hM dX4_two_202 h
    · replace h := h.2
      by_cases c1_2 : v0 = 42
      · replace h := h.1 c1_2
        rw [c1_2]
        refine vv_tableIn (tgt := 128) hC dX4_two_1 (by decide) (by decide) rfl rfl ?_
        refine vv_iload_n hC dX4_two_128 rfl 1 rfl ?_
        refine vv_iload_n hC dX4_two_129 rfl 2 rfl ?_
        refine vv_imul hC dX4_two_130 ?_
        exact vv_iret hC hM dX4_two_131 h
      · replace h := h.2
        by_cases c1_3 : v0 = 43
        · replace h := h.1 c1_3
          rw [c1_3]
          refine vv_tableIn (tgt := 120) hC dX4_two_1 (by decide) (by decide) rfl rfl ?_
          refine vv_iload_n hC dX4_two_120 rfl 1 rfl ?_
          refine vv_iload_n hC dX4_two_121 rfl 2 rfl ?_
          refine vv_iadd hC dX4_two_122 ?_
          exact vv_iret hC hM dX4_two_123 h
        · replace h := h.2
          by_cases c1_4 : v0 = 45
          · replace h := h.1 c1_4
            rw [c1_4]
            refine vv_tableIn (tgt := 124) hC dX4_two_1 (by decide) (by decide) rfl rfl ?_
            refine vv_iload_n hC dX4_two_124 rfl 1 rfl ?_
            refine vv_iload_n hC dX4_two_125 rfl 2 rfl ?_
            refine vv_isub hC dX4_two_126 ?_
            exact vv_iret hC hM dX4_two_127 h
          · replace h := h.2
            by_cases c1_5 : v0 = 47
            · replace h := h.1 c1_5
              rw [c1_5]
              refine vv_tableIn (tgt := 132) hC dX4_two_1 (by decide) (by decide) rfl rfl ?_
              refine vv_iload_n hC dX4_two_132 rfl 2 rfl ?_
              refine vv_if_ne (tgt := 140) hC dX4_two_133 rfl (fun c5 => ?_) (fun c5 => ?_)
              · replace h := h.1 c5
                refine vv_iload_n hC dX4_two_140 rfl 1 rfl ?_
                refine vv_iload_n hC dX4_two_141 rfl 2 rfl ?_
                obtain ⟨hne, h⟩ := h
                refine vv_idiv hC dX4_two_142 hne ?_
                exact vv_iret hC hM dX4_two_143 h
              · replace h := h.2 c5
                refine vv_iconst hC dX4_two_136 ic_0 ?_
                refine vv_goto (tgt := 143) hC dX4_two_137 rfl ?_
                exact vv_iret hC hM dX4_two_143 h
            · replace h := h.2
              by_cases c1_6 : v0 = 60
              · replace h := h.1 c1_6
                rw [c1_6]
                refine vv_tableIn (tgt := 156) hC dX4_two_1 (by decide) (by decide) rfl rfl ?_
                refine vv_iload_n hC dX4_two_156 rfl 1 rfl ?_
                refine vv_iload_n hC dX4_two_157 rfl 2 rfl ?_
                refine vv_icmp_ge (tgt := 165) hC dX4_two_158 rfl (fun c6 => ?_) (fun c6 => ?_)
                · replace h := h.1 c6
                  refine vv_iconst hC dX4_two_165 ic_0 ?_
                  exact vv_iret hC hM dX4_two_166 h
                · replace h := h.2 c6
                  refine vv_iconst hC dX4_two_161 ic_1 ?_
                  refine vv_goto (tgt := 166) hC dX4_two_162 rfl ?_
                  exact vv_iret hC hM dX4_two_166 h
              · replace h := h.2
                by_cases c1_7 : v0 = 61
                · replace h := h.1 c1_7
                  rw [c1_7]
                  refine vv_tableIn (tgt := 178) hC dX4_two_1 (by decide) (by decide) rfl rfl ?_
                  refine vv_iload_n hC dX4_two_178 rfl 1 rfl ?_
                  refine vv_iload_n hC dX4_two_179 rfl 2 rfl ?_
                  refine vv_icmp_ne (tgt := 187) hC dX4_two_180 rfl (fun c7 => ?_) (fun c7 => ?_)
                  · replace h := h.1 c7
                    refine vv_iconst hC dX4_two_187 ic_0 ?_
                    exact vv_iret hC hM dX4_two_188 h
                  · replace h := h.2 c7
                    refine vv_iconst hC dX4_two_183 ic_1 ?_
                    refine vv_goto (tgt := 188) hC dX4_two_184 rfl ?_
                    exact vv_iret hC hM dX4_two_188 h
                · replace h := h.2
                  by_cases c1_8 : v0 = 62
                  · replace h := h.1 c1_8
                    rw [c1_8]
                    refine vv_tableIn (tgt := 167) hC dX4_two_1 (by decide) (by decide) rfl rfl ?_
                    refine vv_iload_n hC dX4_two_167 rfl 1 rfl ?_
                    refine vv_iload_n hC dX4_two_168 rfl 2 rfl ?_
                    refine vv_icmp_le (tgt := 176) hC dX4_two_169 rfl (fun c8 => ?_) (fun c8 => ?_)
                    · replace h := h.1 c8
                      refine vv_iconst hC dX4_two_176 ic_0 ?_
                      exact vv_iret hC hM dX4_two_177 h
                    · replace h := h.2 c8
                      refine vv_iconst hC dX4_two_172 ic_1 ?_
                      refine vv_goto (tgt := 177) hC dX4_two_173 rfl ?_
                      exact vv_iret hC hM dX4_two_177 h
                  · replace h := h.2
                    replace h := h c1_0 c1_1 c1_2 c1_3 c1_4 c1_5 c1_6 c1_7 c1_8
                    by_cases c1_lo : v0.toInt < 37 ∨ 62 < v0.toInt
                    · refine vv_tableOut (tgt := 203) hC dX4_two_1 c1_lo rfl ?_
                      refine vv_iload_n hC dX4_two_203 rfl 1 rfl ?_
                      refine vv_if_ne (tgt := 211) hC dX4_two_204 rfl (fun c9 => ?_) (fun c9 => ?_)
                      · replace h := h.1 c9
                        refine vv_iconst hC dX4_two_211 ic_1 ?_
                        refine vv_goto (tgt := 216) hC dX4_two_212 rfl ?_
                        exact vv_iret hC hM dX4_two_216 h
                      · replace h := h.2 c9
                        refine vv_iload_n hC dX4_two_207 rfl 2 rfl ?_
                        refine vv_if_eq (tgt := 215) hC dX4_two_208 rfl (fun c10 => ?_) (fun c10 => ?_)
                        · replace h := h.1 c10
                          refine vv_iconst hC dX4_two_215 ic_0 ?_
                          exact vv_iret hC hM dX4_two_216 h
                        · replace h := h.2 c10
                          refine vv_iconst hC dX4_two_211 ic_1 ?_
                          refine vv_goto (tgt := 216) hC dX4_two_212 rfl ?_
                          exact vv_iret hC hM dX4_two_216 h
                    · obtain ⟨nn, hn1, hn2⟩ := sw_in (fun q => c1_lo (Or.inl q)) (fun q => c1_lo (Or.inr q))
                      match nn, hn1, hn2 with
                      | 0, _, hn2 => exact absurd (sw_eq (hn2.trans (by decide))) c1_0
                      | 1, _, hn2 => exact absurd (sw_eq (hn2.trans (by decide))) c1_1
                      | 2, _, hn2 =>
                        have ea : v0 = 39 := sw_eq (hn2.trans (by decide))
                        rw [ea]
                        refine vv_tableIn (tgt := 203) hC dX4_two_1 (by decide) (by decide) rfl rfl ?_
                        refine vv_iload_n hC dX4_two_203 rfl 1 rfl ?_
                        refine vv_if_ne (tgt := 211) hC dX4_two_204 rfl (fun c9 => ?_) (fun c9 => ?_)
                        · replace h := h.1 c9
                          refine vv_iconst hC dX4_two_211 ic_1 ?_
                          refine vv_goto (tgt := 216) hC dX4_two_212 rfl ?_
                          exact vv_iret hC hM dX4_two_216 h
                        · replace h := h.2 c9
                          refine vv_iload_n hC dX4_two_207 rfl 2 rfl ?_
                          refine vv_if_eq (tgt := 215) hC dX4_two_208 rfl (fun c10 => ?_) (fun c10 => ?_)
                          · replace h := h.1 c10
                            refine vv_iconst hC dX4_two_215 ic_0 ?_
                            exact vv_iret hC hM dX4_two_216 h
                          · replace h := h.2 c10
                            refine vv_iconst hC dX4_two_211 ic_1 ?_
                            refine vv_goto (tgt := 216) hC dX4_two_212 rfl ?_
                            exact vv_iret hC hM dX4_two_216 h
                      | 3, _, hn2 =>
                        have ea : v0 = 40 := sw_eq (hn2.trans (by decide))
                        rw [ea]
                        refine vv_tableIn (tgt := 203) hC dX4_two_1 (by decide) (by decide) rfl rfl ?_
                        refine vv_iload_n hC dX4_two_203 rfl 1 rfl ?_
                        refine vv_if_ne (tgt := 211) hC dX4_two_204 rfl (fun c9 => ?_) (fun c9 => ?_)
                        · replace h := h.1 c9
                          refine vv_iconst hC dX4_two_211 ic_1 ?_
                          refine vv_goto (tgt := 216) hC dX4_two_212 rfl ?_
                          exact vv_iret hC hM dX4_two_216 h
                        · replace h := h.2 c9
                          refine vv_iload_n hC dX4_two_207 rfl 2 rfl ?_
                          refine vv_if_eq (tgt := 215) hC dX4_two_208 rfl (fun c10 => ?_) (fun c10 => ?_)
                          · replace h := h.1 c10
                            refine vv_iconst hC dX4_two_215 ic_0 ?_
                            exact vv_iret hC hM dX4_two_216 h
                          · replace h := h.2 c10
                            refine vv_iconst hC dX4_two_211 ic_1 ?_
                            refine vv_goto (tgt := 216) hC dX4_two_212 rfl ?_
                            exact vv_iret hC hM dX4_two_216 h
                      | 4, _, hn2 =>
                        have ea : v0 = 41 := sw_eq (hn2.trans (by decide))
                        rw [ea]
                        refine vv_tableIn (tgt := 203) hC dX4_two_1 (by decide) (by decide) rfl rfl ?_
                        refine vv_iload_n hC dX4_two_203 rfl 1 rfl ?_
                        refine vv_if_ne (tgt := 211) hC dX4_two_204 rfl (fun c9 => ?_) (fun c9 => ?_)
                        · replace h := h.1 c9
                          refine vv_iconst hC dX4_two_211 ic_1 ?_
                          refine vv_goto (tgt := 216) hC dX4_two_212 rfl ?_
                          exact vv_iret hC hM dX4_two_216 h
                        · replace h := h.2 c9
                          refine vv_iload_n hC dX4_two_207 rfl 2 rfl ?_
                          refine vv_if_eq (tgt := 215) hC dX4_two_208 rfl (fun c10 => ?_) (fun c10 => ?_)
                          · replace h := h.1 c10
                            refine vv_iconst hC dX4_two_215 ic_0 ?_
                            exact vv_iret hC hM dX4_two_216 h
                          · replace h := h.2 c10
                            refine vv_iconst hC dX4_two_211 ic_1 ?_
                            refine vv_goto (tgt := 216) hC dX4_two_212 rfl ?_
                            exact vv_iret hC hM dX4_two_216 h
                      | 5, _, hn2 => exact absurd (sw_eq (hn2.trans (by decide))) c1_2
                      | 6, _, hn2 => exact absurd (sw_eq (hn2.trans (by decide))) c1_3
                      | 7, _, hn2 =>
                        have ea : v0 = 44 := sw_eq (hn2.trans (by decide))
                        rw [ea]
                        refine vv_tableIn (tgt := 203) hC dX4_two_1 (by decide) (by decide) rfl rfl ?_
                        refine vv_iload_n hC dX4_two_203 rfl 1 rfl ?_
                        refine vv_if_ne (tgt := 211) hC dX4_two_204 rfl (fun c9 => ?_) (fun c9 => ?_)
                        · replace h := h.1 c9
                          refine vv_iconst hC dX4_two_211 ic_1 ?_
                          refine vv_goto (tgt := 216) hC dX4_two_212 rfl ?_
                          exact vv_iret hC hM dX4_two_216 h
                        · replace h := h.2 c9
                          refine vv_iload_n hC dX4_two_207 rfl 2 rfl ?_
                          refine vv_if_eq (tgt := 215) hC dX4_two_208 rfl (fun c10 => ?_) (fun c10 => ?_)
                          · replace h := h.1 c10
                            refine vv_iconst hC dX4_two_215 ic_0 ?_
                            exact vv_iret hC hM dX4_two_216 h
                          · replace h := h.2 c10
                            refine vv_iconst hC dX4_two_211 ic_1 ?_
                            refine vv_goto (tgt := 216) hC dX4_two_212 rfl ?_
                            exact vv_iret hC hM dX4_two_216 h
                      | 8, _, hn2 => exact absurd (sw_eq (hn2.trans (by decide))) c1_4
                      | 9, _, hn2 =>
                        have ea : v0 = 46 := sw_eq (hn2.trans (by decide))
                        rw [ea]
                        refine vv_tableIn (tgt := 203) hC dX4_two_1 (by decide) (by decide) rfl rfl ?_
                        refine vv_iload_n hC dX4_two_203 rfl 1 rfl ?_
                        refine vv_if_ne (tgt := 211) hC dX4_two_204 rfl (fun c9 => ?_) (fun c9 => ?_)
                        · replace h := h.1 c9
                          refine vv_iconst hC dX4_two_211 ic_1 ?_
                          refine vv_goto (tgt := 216) hC dX4_two_212 rfl ?_
                          exact vv_iret hC hM dX4_two_216 h
                        · replace h := h.2 c9
                          refine vv_iload_n hC dX4_two_207 rfl 2 rfl ?_
                          refine vv_if_eq (tgt := 215) hC dX4_two_208 rfl (fun c10 => ?_) (fun c10 => ?_)
                          · replace h := h.1 c10
                            refine vv_iconst hC dX4_two_215 ic_0 ?_
                            exact vv_iret hC hM dX4_two_216 h
                          · replace h := h.2 c10
                            refine vv_iconst hC dX4_two_211 ic_1 ?_
                            refine vv_goto (tgt := 216) hC dX4_two_212 rfl ?_
                            exact vv_iret hC hM dX4_two_216 h
                      | 10, _, hn2 => exact absurd (sw_eq (hn2.trans (by decide))) c1_5
                      | 11, _, hn2 =>
                        have ea : v0 = 48 := sw_eq (hn2.trans (by decide))
                        rw [ea]
                        refine vv_tableIn (tgt := 203) hC dX4_two_1 (by decide) (by decide) rfl rfl ?_
                        refine vv_iload_n hC dX4_two_203 rfl 1 rfl ?_
                        refine vv_if_ne (tgt := 211) hC dX4_two_204 rfl (fun c9 => ?_) (fun c9 => ?_)
                        · replace h := h.1 c9
                          refine vv_iconst hC dX4_two_211 ic_1 ?_
                          refine vv_goto (tgt := 216) hC dX4_two_212 rfl ?_
                          exact vv_iret hC hM dX4_two_216 h
                        · replace h := h.2 c9
                          refine vv_iload_n hC dX4_two_207 rfl 2 rfl ?_
                          refine vv_if_eq (tgt := 215) hC dX4_two_208 rfl (fun c10 => ?_) (fun c10 => ?_)
                          · replace h := h.1 c10
                            refine vv_iconst hC dX4_two_215 ic_0 ?_
                            exact vv_iret hC hM dX4_two_216 h
                          · replace h := h.2 c10
                            refine vv_iconst hC dX4_two_211 ic_1 ?_
                            refine vv_goto (tgt := 216) hC dX4_two_212 rfl ?_
                            exact vv_iret hC hM dX4_two_216 h
                      | 12, _, hn2 =>
                        have ea : v0 = 49 := sw_eq (hn2.trans (by decide))
                        rw [ea]
                        refine vv_tableIn (tgt := 203) hC dX4_two_1 (by decide) (by decide) rfl rfl ?_
                        refine vv_iload_n hC dX4_two_203 rfl 1 rfl ?_
                        refine vv_if_ne (tgt := 211) hC dX4_two_204 rfl (fun c9 => ?_) (fun c9 => ?_)
                        · replace h := h.1 c9
                          refine vv_iconst hC dX4_two_211 ic_1 ?_
                          refine vv_goto (tgt := 216) hC dX4_two_212 rfl ?_
                          exact vv_iret hC hM dX4_two_216 h
                        · replace h := h.2 c9
                          refine vv_iload_n hC dX4_two_207 rfl 2 rfl ?_
                          refine vv_if_eq (tgt := 215) hC dX4_two_208 rfl (fun c10 => ?_) (fun c10 => ?_)
                          · replace h := h.1 c10
                            refine vv_iconst hC dX4_two_215 ic_0 ?_
                            exact vv_iret hC hM dX4_two_216 h
                          · replace h := h.2 c10
                            refine vv_iconst hC dX4_two_211 ic_1 ?_
                            refine vv_goto (tgt := 216) hC dX4_two_212 rfl ?_
                            exact vv_iret hC hM dX4_two_216 h
                      | 13, _, hn2 =>
                        have ea : v0 = 50 := sw_eq (hn2.trans (by decide))
                        rw [ea]
                        refine vv_tableIn (tgt := 203) hC dX4_two_1 (by decide) (by decide) rfl rfl ?_
                        refine vv_iload_n hC dX4_two_203 rfl 1 rfl ?_
                        refine vv_if_ne (tgt := 211) hC dX4_two_204 rfl (fun c9 => ?_) (fun c9 => ?_)
                        · replace h := h.1 c9
                          refine vv_iconst hC dX4_two_211 ic_1 ?_
                          refine vv_goto (tgt := 216) hC dX4_two_212 rfl ?_
                          exact vv_iret hC hM dX4_two_216 h
                        · replace h := h.2 c9
                          refine vv_iload_n hC dX4_two_207 rfl 2 rfl ?_
                          refine vv_if_eq (tgt := 215) hC dX4_two_208 rfl (fun c10 => ?_) (fun c10 => ?_)
                          · replace h := h.1 c10
                            refine vv_iconst hC dX4_two_215 ic_0 ?_
                            exact vv_iret hC hM dX4_two_216 h
                          · replace h := h.2 c10
                            refine vv_iconst hC dX4_two_211 ic_1 ?_
                            refine vv_goto (tgt := 216) hC dX4_two_212 rfl ?_
                            exact vv_iret hC hM dX4_two_216 h
                      | 14, _, hn2 =>
                        have ea : v0 = 51 := sw_eq (hn2.trans (by decide))
                        rw [ea]
                        refine vv_tableIn (tgt := 203) hC dX4_two_1 (by decide) (by decide) rfl rfl ?_
                        refine vv_iload_n hC dX4_two_203 rfl 1 rfl ?_
                        refine vv_if_ne (tgt := 211) hC dX4_two_204 rfl (fun c9 => ?_) (fun c9 => ?_)
                        · replace h := h.1 c9
                          refine vv_iconst hC dX4_two_211 ic_1 ?_
                          refine vv_goto (tgt := 216) hC dX4_two_212 rfl ?_
                          exact vv_iret hC hM dX4_two_216 h
                        · replace h := h.2 c9
                          refine vv_iload_n hC dX4_two_207 rfl 2 rfl ?_
                          refine vv_if_eq (tgt := 215) hC dX4_two_208 rfl (fun c10 => ?_) (fun c10 => ?_)
                          · replace h := h.1 c10
                            refine vv_iconst hC dX4_two_215 ic_0 ?_
                            exact vv_iret hC hM dX4_two_216 h
                          · replace h := h.2 c10
                            refine vv_iconst hC dX4_two_211 ic_1 ?_
                            refine vv_goto (tgt := 216) hC dX4_two_212 rfl ?_
                            exact vv_iret hC hM dX4_two_216 h
                      | 15, _, hn2 =>
                        have ea : v0 = 52 := sw_eq (hn2.trans (by decide))
                        rw [ea]
                        refine vv_tableIn (tgt := 203) hC dX4_two_1 (by decide) (by decide) rfl rfl ?_
                        refine vv_iload_n hC dX4_two_203 rfl 1 rfl ?_
                        refine vv_if_ne (tgt := 211) hC dX4_two_204 rfl (fun c9 => ?_) (fun c9 => ?_)
                        · replace h := h.1 c9
                          refine vv_iconst hC dX4_two_211 ic_1 ?_
                          refine vv_goto (tgt := 216) hC dX4_two_212 rfl ?_
                          exact vv_iret hC hM dX4_two_216 h
                        · replace h := h.2 c9
                          refine vv_iload_n hC dX4_two_207 rfl 2 rfl ?_
                          refine vv_if_eq (tgt := 215) hC dX4_two_208 rfl (fun c10 => ?_) (fun c10 => ?_)
                          · replace h := h.1 c10
                            refine vv_iconst hC dX4_two_215 ic_0 ?_
                            exact vv_iret hC hM dX4_two_216 h
                          · replace h := h.2 c10
                            refine vv_iconst hC dX4_two_211 ic_1 ?_
                            refine vv_goto (tgt := 216) hC dX4_two_212 rfl ?_
                            exact vv_iret hC hM dX4_two_216 h
                      | 16, _, hn2 =>
                        have ea : v0 = 53 := sw_eq (hn2.trans (by decide))
                        rw [ea]
                        refine vv_tableIn (tgt := 203) hC dX4_two_1 (by decide) (by decide) rfl rfl ?_
                        refine vv_iload_n hC dX4_two_203 rfl 1 rfl ?_
                        refine vv_if_ne (tgt := 211) hC dX4_two_204 rfl (fun c9 => ?_) (fun c9 => ?_)
                        · replace h := h.1 c9
                          refine vv_iconst hC dX4_two_211 ic_1 ?_
                          refine vv_goto (tgt := 216) hC dX4_two_212 rfl ?_
                          exact vv_iret hC hM dX4_two_216 h
                        · replace h := h.2 c9
                          refine vv_iload_n hC dX4_two_207 rfl 2 rfl ?_
                          refine vv_if_eq (tgt := 215) hC dX4_two_208 rfl (fun c10 => ?_) (fun c10 => ?_)
                          · replace h := h.1 c10
                            refine vv_iconst hC dX4_two_215 ic_0 ?_
                            exact vv_iret hC hM dX4_two_216 h
                          · replace h := h.2 c10
                            refine vv_iconst hC dX4_two_211 ic_1 ?_
                            refine vv_goto (tgt := 216) hC dX4_two_212 rfl ?_
                            exact vv_iret hC hM dX4_two_216 h
                      | 17, _, hn2 =>
                        have ea : v0 = 54 := sw_eq (hn2.trans (by decide))
                        rw [ea]
                        refine vv_tableIn (tgt := 203) hC dX4_two_1 (by decide) (by decide) rfl rfl ?_
                        refine vv_iload_n hC dX4_two_203 rfl 1 rfl ?_
                        refine vv_if_ne (tgt := 211) hC dX4_two_204 rfl (fun c9 => ?_) (fun c9 => ?_)
                        · replace h := h.1 c9
                          refine vv_iconst hC dX4_two_211 ic_1 ?_
                          refine vv_goto (tgt := 216) hC dX4_two_212 rfl ?_
                          exact vv_iret hC hM dX4_two_216 h
                        · replace h := h.2 c9
                          refine vv_iload_n hC dX4_two_207 rfl 2 rfl ?_
                          refine vv_if_eq (tgt := 215) hC dX4_two_208 rfl (fun c10 => ?_) (fun c10 => ?_)
                          · replace h := h.1 c10
                            refine vv_iconst hC dX4_two_215 ic_0 ?_
                            exact vv_iret hC hM dX4_two_216 h
                          · replace h := h.2 c10
                            refine vv_iconst hC dX4_two_211 ic_1 ?_
                            refine vv_goto (tgt := 216) hC dX4_two_212 rfl ?_
                            exact vv_iret hC hM dX4_two_216 h
                      | 18, _, hn2 =>
                        have ea : v0 = 55 := sw_eq (hn2.trans (by decide))
                        rw [ea]
                        refine vv_tableIn (tgt := 203) hC dX4_two_1 (by decide) (by decide) rfl rfl ?_
                        refine vv_iload_n hC dX4_two_203 rfl 1 rfl ?_
                        refine vv_if_ne (tgt := 211) hC dX4_two_204 rfl (fun c9 => ?_) (fun c9 => ?_)
                        · replace h := h.1 c9
                          refine vv_iconst hC dX4_two_211 ic_1 ?_
                          refine vv_goto (tgt := 216) hC dX4_two_212 rfl ?_
                          exact vv_iret hC hM dX4_two_216 h
                        · replace h := h.2 c9
                          refine vv_iload_n hC dX4_two_207 rfl 2 rfl ?_
                          refine vv_if_eq (tgt := 215) hC dX4_two_208 rfl (fun c10 => ?_) (fun c10 => ?_)
                          · replace h := h.1 c10
                            refine vv_iconst hC dX4_two_215 ic_0 ?_
                            exact vv_iret hC hM dX4_two_216 h
                          · replace h := h.2 c10
                            refine vv_iconst hC dX4_two_211 ic_1 ?_
                            refine vv_goto (tgt := 216) hC dX4_two_212 rfl ?_
                            exact vv_iret hC hM dX4_two_216 h
                      | 19, _, hn2 =>
                        have ea : v0 = 56 := sw_eq (hn2.trans (by decide))
                        rw [ea]
                        refine vv_tableIn (tgt := 203) hC dX4_two_1 (by decide) (by decide) rfl rfl ?_
                        refine vv_iload_n hC dX4_two_203 rfl 1 rfl ?_
                        refine vv_if_ne (tgt := 211) hC dX4_two_204 rfl (fun c9 => ?_) (fun c9 => ?_)
                        · replace h := h.1 c9
                          refine vv_iconst hC dX4_two_211 ic_1 ?_
                          refine vv_goto (tgt := 216) hC dX4_two_212 rfl ?_
                          exact vv_iret hC hM dX4_two_216 h
                        · replace h := h.2 c9
                          refine vv_iload_n hC dX4_two_207 rfl 2 rfl ?_
                          refine vv_if_eq (tgt := 215) hC dX4_two_208 rfl (fun c10 => ?_) (fun c10 => ?_)
                          · replace h := h.1 c10
                            refine vv_iconst hC dX4_two_215 ic_0 ?_
                            exact vv_iret hC hM dX4_two_216 h
                          · replace h := h.2 c10
                            refine vv_iconst hC dX4_two_211 ic_1 ?_
                            refine vv_goto (tgt := 216) hC dX4_two_212 rfl ?_
                            exact vv_iret hC hM dX4_two_216 h
                      | 20, _, hn2 =>
                        have ea : v0 = 57 := sw_eq (hn2.trans (by decide))
                        rw [ea]
                        refine vv_tableIn (tgt := 203) hC dX4_two_1 (by decide) (by decide) rfl rfl ?_
                        refine vv_iload_n hC dX4_two_203 rfl 1 rfl ?_
                        refine vv_if_ne (tgt := 211) hC dX4_two_204 rfl (fun c9 => ?_) (fun c9 => ?_)
                        · replace h := h.1 c9
                          refine vv_iconst hC dX4_two_211 ic_1 ?_
                          refine vv_goto (tgt := 216) hC dX4_two_212 rfl ?_
                          exact vv_iret hC hM dX4_two_216 h
                        · replace h := h.2 c9
                          refine vv_iload_n hC dX4_two_207 rfl 2 rfl ?_
                          refine vv_if_eq (tgt := 215) hC dX4_two_208 rfl (fun c10 => ?_) (fun c10 => ?_)
                          · replace h := h.1 c10
                            refine vv_iconst hC dX4_two_215 ic_0 ?_
                            exact vv_iret hC hM dX4_two_216 h
                          · replace h := h.2 c10
                            refine vv_iconst hC dX4_two_211 ic_1 ?_
                            refine vv_goto (tgt := 216) hC dX4_two_212 rfl ?_
                            exact vv_iret hC hM dX4_two_216 h
                      | 21, _, hn2 =>
                        have ea : v0 = 58 := sw_eq (hn2.trans (by decide))
                        rw [ea]
                        refine vv_tableIn (tgt := 203) hC dX4_two_1 (by decide) (by decide) rfl rfl ?_
                        refine vv_iload_n hC dX4_two_203 rfl 1 rfl ?_
                        refine vv_if_ne (tgt := 211) hC dX4_two_204 rfl (fun c9 => ?_) (fun c9 => ?_)
                        · replace h := h.1 c9
                          refine vv_iconst hC dX4_two_211 ic_1 ?_
                          refine vv_goto (tgt := 216) hC dX4_two_212 rfl ?_
                          exact vv_iret hC hM dX4_two_216 h
                        · replace h := h.2 c9
                          refine vv_iload_n hC dX4_two_207 rfl 2 rfl ?_
                          refine vv_if_eq (tgt := 215) hC dX4_two_208 rfl (fun c10 => ?_) (fun c10 => ?_)
                          · replace h := h.1 c10
                            refine vv_iconst hC dX4_two_215 ic_0 ?_
                            exact vv_iret hC hM dX4_two_216 h
                          · replace h := h.2 c10
                            refine vv_iconst hC dX4_two_211 ic_1 ?_
                            refine vv_goto (tgt := 216) hC dX4_two_212 rfl ?_
                            exact vv_iret hC hM dX4_two_216 h
                      | 22, _, hn2 =>
                        have ea : v0 = 59 := sw_eq (hn2.trans (by decide))
                        rw [ea]
                        refine vv_tableIn (tgt := 203) hC dX4_two_1 (by decide) (by decide) rfl rfl ?_
                        refine vv_iload_n hC dX4_two_203 rfl 1 rfl ?_
                        refine vv_if_ne (tgt := 211) hC dX4_two_204 rfl (fun c9 => ?_) (fun c9 => ?_)
                        · replace h := h.1 c9
                          refine vv_iconst hC dX4_two_211 ic_1 ?_
                          refine vv_goto (tgt := 216) hC dX4_two_212 rfl ?_
                          exact vv_iret hC hM dX4_two_216 h
                        · replace h := h.2 c9
                          refine vv_iload_n hC dX4_two_207 rfl 2 rfl ?_
                          refine vv_if_eq (tgt := 215) hC dX4_two_208 rfl (fun c10 => ?_) (fun c10 => ?_)
                          · replace h := h.1 c10
                            refine vv_iconst hC dX4_two_215 ic_0 ?_
                            exact vv_iret hC hM dX4_two_216 h
                          · replace h := h.2 c10
                            refine vv_iconst hC dX4_two_211 ic_1 ?_
                            refine vv_goto (tgt := 216) hC dX4_two_212 rfl ?_
                            exact vv_iret hC hM dX4_two_216 h
                      | 23, _, hn2 => exact absurd (sw_eq (hn2.trans (by decide))) c1_6
                      | 24, _, hn2 => exact absurd (sw_eq (hn2.trans (by decide))) c1_7
                      | 25, _, hn2 => exact absurd (sw_eq (hn2.trans (by decide))) c1_8
                      | q + 26, hn1, _ => exact absurd hn1 (by omega)
def w_X4_comes_139 (P17 : Int32 → Int32 → Int32 → WS → Prop) (v1 : Int32) (v2 : Int32) (v3 : Int32) (μ : WS) (Q : Int32 → WS → Prop) : Prop := P17 v1 v2 (v3 + 1) μ
def w_X4_comes_73 (P17 : Int32 → Int32 → Int32 → WS → Prop) (s0 : Int32) (s1 : Int32) (v1 : Int32) (v2 : Int32) (v3 : Int32) (μ : WS) (Q : Int32 → WS → Prop) : Prop := (vp_in s1 60 ∧ (∀ μ15 : WS, μ15 = wset μ 20 s1.toNatClampNeg s0 → w_X4_comes_139 P17 v1 v2 v3 μ15 Q))
def w_X4_comes_17b (P17 : Int32 → Int32 → Int32 → WS → Prop) (v1 : Int32) (v2 : Int32) (v3 : Int32) (μ : WS) (Q : Int32 → WS → Prop) : Prop := (vp_in ((8 * (μ.1 0 29)) + v1) 16 ∧ ((μ.1 11 ((8 * (μ.1 0 29)) + v1).toNatClampNeg ≤ v3) → Q (μ.1 20 0) μ) ∧ ((¬ μ.1 11 ((8 * (μ.1 0 29)) + v1).toNatClampNeg ≤ v3) → (vp_in v3 1120 ∧ (∀ x3 : Int32, x3 = μ.1 16 v3.toNatClampNeg → ((¬ x3 = 126) → (w_X4_isLetter x3 μ (fun r6 μ5 => ((r6 = 0) → (vp_in ((v2 + (-1)) - 1) 60 ∧ (vp_in (v2 + (-1)) 60 ∧ (w_X4_two x3 (μ5.1 20 ((v2 + (-1)) - 1).toNatClampNeg) (μ5.1 20 (v2 + (-1)).toNatClampNeg) μ5 (fun r9 μ8 => (vp_in ((v2 + (-1)) - 1) 60 ∧ (∀ μ10 : WS, μ10 = wset μ8 20 ((v2 + (-1)) - 1).toNatClampNeg r9 → w_X4_comes_139 P17 v1 (v2 + (-1)) v3 μ10 Q))))))) ∧ ((¬ r6 = 0) → (vp_in v3 1120 ∧ (w_X4_asked x3 (μ5.1 17 v3.toNatClampNeg) μ5 (fun r12 μ11 => (vp_in v2 60 ∧ (∀ μ13 : WS, μ13 = wset μ11 20 v2.toNatClampNeg r12 → w_X4_comes_139 P17 v1 (v2 + 1) v3 μ13 Q))))))))) ∧ ((x3 = 126) → (vp_in (v2 - 1) 60 ∧ ((¬ μ.1 20 (v2 - 1).toNatClampNeg = 0) → w_X4_comes_73 P17 0 (v2 - 1) v1 v2 v3 μ Q) ∧ ((μ.1 20 (v2 - 1).toNatClampNeg = 0) → w_X4_comes_73 P17 1 (v2 - 1) v1 v2 v3 μ Q)))))))
def w_X4_comes_17 (v1 : Int32) (v2 : Int32) (v3 : Int32) (μ : WS) (Q : Int32 → WS → Prop) : Prop := ∀ P17 : Int32 → Int32 → Int32 → WS → Prop, (∀ (v1 : Int32) (v2 : Int32) (v3 : Int32) (μ : WS), w_X4_comes_17b  P17 v1 v2 v3 μ Q → P17 v1 v2 v3 μ) → P17 v1 v2 v3 μ
def w_X4_comes (v1 : Int32) (μ : WS) (Q : Int32 → WS → Prop) : Prop := (vp_in ((8 * (μ.1 0 29)) + v1) 16 ∧ (∀ x1 : Int32, x1 = μ.1 10 ((8 * (μ.1 0 29)) + v1).toNatClampNeg → w_X4_comes_17 v1 0 x1 μ Q))
abbrev rm_X4_comes : Room := { frames := 1, cells := 0, slots := 0, locals := 22 }
theorem mf_X4_comes : MFact yX4_comes 1 rm_X4_comes := ⟨by decide +kernel, rfl, rfl⟩
set_option maxHeartbeats 4000000 in
theorem met_X4_comes (l : Launch) (D : va_G) (ac : Nat → ClassId) (ad : Nat → Nat) (Ex : Heap → Prop) (hLay : LayOk ad knM) (hEx : ExOk ad knM Ex) (v1 : Int32) (μ : WS) (Q : Int32 → WS → Prop) (h : w_X4_comes v1 μ Q) : CMet l yX4_comes cX4_comes 5 (some .int) rm_X4_comes D ac ad knM Ex [.ref (ad 0), .int v1] μ (qI Q) := by
  refine vv_met (lv := [(0, .ref (ad 0)), (1, .int v1)]) (by decide) hLay hEx (Nat.le_of_ble_eq_true rfl) rfl ⟨rfl, rfl⟩ (fun C hC hK hRm hLl hR hM => ?_)
  subst hLl
  have hRo : RoomOk (HPW D ac ad knM Ex (vS C)) (vR C) := HPW.room
  have L139 : ∀ (P17 : Int32 → Int32 → Int32 → WS → Prop) (h17 : ∀ (v1 : Int32) (v2 : Int32) (v3 : Int32) (μ : WS), P17 v1 v2 v3 μ → VV C 5 (HPW D ac ad knM Ex (vS C)) (vQ C (QcW D ac ad knM (qI Q)) 0 0 (inLay ad knM)) (μ, ()) 17 [(0, .ref (ad 0)), (1, .int v1), (2, .int v2), (3, .int v3)] []) (v1 : Int32) (v2 : Int32) (v3 : Int32) (μ : WS), w_X4_comes_139 P17 v1 v2 v3 μ Q → VV C 5 (HPW D ac ad knM Ex (vS C)) (vQ C (QcW D ac ad knM (qI Q)) 0 0 (inLay ad knM)) (μ, ()) 139 [(0, .ref (ad 0)), (1, .int v1), (2, .int v2), (3, .int v3)] [] := by
    intro P17 h17 v1 v2 v3 μ h
    unfold w_X4_comes_139 at h
    refine vv_iinc (pl := 3) (v := v3 + 1) (lv' := [(3, .int (v3 + 1)), (0, .ref (ad 0)), (1, .int v1), (2, .int v2)]) hC dX4_comes_139 rfl rfl (by decide) rfl ?_
    refine vv_goto (tgt := 17) hC dX4_comes_142 rfl ?_
    refine vv_lv [1, 2, 3, 0] rfl ?_
    exact h17 _ _ _ _ h
  have L73 : ∀ (P17 : Int32 → Int32 → Int32 → WS → Prop) (h17 : ∀ (v1 : Int32) (v2 : Int32) (v3 : Int32) (μ : WS), P17 v1 v2 v3 μ → VV C 5 (HPW D ac ad knM Ex (vS C)) (vQ C (QcW D ac ad knM (qI Q)) 0 0 (inLay ad knM)) (μ, ()) 17 [(0, .ref (ad 0)), (1, .int v1), (2, .int v2), (3, .int v3)] []) (s0 : Int32) (s1 : Int32) (v1 : Int32) (v2 : Int32) (v3 : Int32) (μ : WS), w_X4_comes_73 P17 s0 s1 v1 v2 v3 μ Q → VV C 5 (HPW D ac ad knM Ex (vS C)) (vQ C (QcW D ac ad knM (qI Q)) 0 0 (inLay ad knM)) (μ, ()) 73 [(0, .ref (ad 0)), (1, .int v1), (2, .int v2), (3, .int v3)] [.int s0, .int s1, .ref (ad 20)] := by
    intro P17 h17 s0 s1 v1 v2 v3 μ h
    unfold w_X4_comes_73 at h
    obtain ⟨hin, h⟩ := h
    refine vv_iast hC hR hK 20 lm_20 hin dX4_comes_73 ?_
    refine vv_st (fun y e => ?_)
    obtain ⟨μ15, _⟩ := y
    have eμ15 := congrArg Prod.fst e
    clear e
    replace h := h μ15 eμ15
    refine vv_goto (tgt := 139) hC dX4_comes_74 rfl ?_
    exact L139 _ h17 _ _ _ _ h
  have L17 : ∀ (v1 : Int32) (v2 : Int32) (v3 : Int32) (μ : WS), w_X4_comes_17  v1 v2 v3 μ Q → VV C 5 (HPW D ac ad knM Ex (vS C)) (vQ C (QcW D ac ad knM (qI Q)) 0 0 (inLay ad knM)) (μ, ()) 17 [(0, .ref (ad 0)), (1, .int v1), (2, .int v2), (3, .int v3)] [] := by
    intro  v1 v2 v3 μ h
    refine h (fun v1 v2 v3 μ => VV C 5 (HPW D ac ad knM Ex (vS C)) (vQ C (QcW D ac ad knM (qI Q)) 0 0 (inLay ad knM)) (μ, ()) 17 [(0, .ref (ad 0)), (1, .int v1), (2, .int v2), (3, .int v3)] []) ?_
    clear h; intro v1 v2 v3 μ h
    have h17 : ∀ (v1 : Int32) (v2 : Int32) (v3 : Int32) (μ : WS), (fun v1 v2 v3 (μ : WS) => VV C 5 (HPW D ac ad knM Ex (vS C)) (vQ C (QcW D ac ad knM (qI Q)) 0 0 (inLay ad knM)) (μ, ()) 17 [(0, .ref (ad 0)), (1, .int v1), (2, .int v2), (3, .int v3)] []) v1 v2 v3 μ → VV C 5 (HPW D ac ad knM Ex (vS C)) (vQ C (QcW D ac ad knM (qI Q)) 0 0 (inLay ad knM)) (μ, ()) 17 [(0, .ref (ad 0)), (1, .int v1), (2, .int v2), (3, .int v3)] [] := fun _ _ _ _ h => h
    unfold w_X4_comes_17b at h
    refine vv_iload_n hC dX4_comes_17 rfl 3 rfl ?_
    refine vv_aload_n hC dX4_comes_18 rfl 0 rfl ?_
    refine vv_getf hC hR hK fa4_45 0 lm_0 (fm_19 ad _ _ _) dX4_comes_19 ?_
    refine vv_bipush hC dX4_comes_22 bp_8 ?_
    refine vv_aload_n hC dX4_comes_24 rfl 0 rfl ?_
    refine vv_getf hC hR hK fa4_250 0 lm_0 (fm_29 ad _ _ _) dX4_comes_25 ?_
    refine vv_imul hC dX4_comes_28 ?_
    refine vv_iload_n hC dX4_comes_29 rfl 1 rfl ?_
    refine vv_iadd hC dX4_comes_30 ?_
    obtain ⟨hin, h⟩ := h
    refine vv_iald hC hR hK 11 lm_11 hin dX4_comes_31 ?_
    refine vv_icmp_ge (tgt := 145) hC dX4_comes_32 rfl (fun c2 => ?_) (fun c2 => ?_)
    · replace h := h.1 c2
      refine vv_aload_n hC dX4_comes_145 rfl 0 rfl ?_
      refine vv_getf hC hR hK fa4_74 0 lm_0 (fm_28 ad _ _ _) dX4_comes_146 ?_
      refine vv_iconst hC dX4_comes_149 ic_0 ?_
      refine vv_iald hC hR hK 20 lm_20 vin_0_60 dX4_comes_150 ?_
      exact vv_iret hC hM dX4_comes_151 h
    · replace h := h.2 c2
      refine vv_aload_n hC dX4_comes_35 rfl 0 rfl ?_
      refine vv_getf hC hR hK fa4_62 0 lm_0 (fm_24 ad _ _ _) dX4_comes_36 ?_
      refine vv_iload_n hC dX4_comes_39 rfl 3 rfl ?_
      obtain ⟨hin, h⟩ := h
      refine vv_iald hC hR hK 16 lm_16 hin dX4_comes_40 ?_
      refine vv_topi (fun x3 ex3 => ?_)
      replace h := h x3 ex3
      refine vv_istore (lv' := [(4, .int x3), (0, .ref (ad 0)), (1, .int v1), (2, .int v2), (3, .int v3)]) hC dX4_comes_41 (by decide) rfl ?_
      refine vv_iload hC dX4_comes_43 0 rfl ?_
      refine vv_bipush hC dX4_comes_45 bp_126 ?_
      refine vv_icmp_ne (tgt := 77) hC dX4_comes_47 rfl (fun c4 => ?_) (fun c4 => ?_)
      · replace h := h.1 c4
        refine vv_iload hC dX4_comes_77 0 rfl ?_
        refine vv_callSi hC hR hK hRo hRm [.int x3] [] (met_X4_isLetter (vL C) D ac ad Ex hLay hEx x3 μ _ h) gw4_206 mf_X4_isLetter rfl rfl rfl dX4_comes_79 (fun r6 μ5 h => ?_)
        refine vv_if_eq (tgt := 109) hC dX4_comes_82 rfl (fun c7 => ?_) (fun c7 => ?_)
        · replace h := h.1 c7
          refine vv_iinc (pl := 3) (v := v2 + (-1)) (lv' := [(2, .int (v2 + (-1))), (4, .int x3), (0, .ref (ad 0)), (1, .int v1), (3, .int v3)]) hC dX4_comes_109 rfl rfl (by decide) rfl ?_
          refine vv_aload_n hC dX4_comes_112 rfl 2 rfl ?_
          refine vv_getf hC hR hK fa4_74 0 lm_0 (fm_28 ad _ _ _) dX4_comes_113 ?_
          refine vv_iload_n hC dX4_comes_116 rfl 0 rfl ?_
          refine vv_iconst hC dX4_comes_117 ic_1 ?_
          refine vv_isub hC dX4_comes_118 ?_
          refine vv_iload hC dX4_comes_119 1 rfl ?_
          refine vv_aload_n hC dX4_comes_121 rfl 2 rfl ?_
          refine vv_getf hC hR hK fa4_74 0 lm_0 (fm_28 ad _ _ _) dX4_comes_122 ?_
          refine vv_iload_n hC dX4_comes_125 rfl 0 rfl ?_
          refine vv_iconst hC dX4_comes_126 ic_1 ?_
          refine vv_isub hC dX4_comes_127 ?_
          obtain ⟨hin, h⟩ := h
          refine vv_iald hC hR hK 20 lm_20 hin dX4_comes_128 ?_
          refine vv_aload_n hC dX4_comes_129 rfl 2 rfl ?_
          refine vv_getf hC hR hK fa4_74 0 lm_0 (fm_28 ad _ _ _) dX4_comes_130 ?_
          refine vv_iload_n hC dX4_comes_133 rfl 0 rfl ?_
          obtain ⟨hin, h⟩ := h
          refine vv_iald hC hR hK 20 lm_20 hin dX4_comes_134 ?_
          refine vv_callSi hC hR hK hRo hRm [.int x3, .int (μ5.1 20 ((v2 + (-1)) - 1).toNatClampNeg), .int (μ5.1 20 (v2 + (-1)).toNatClampNeg)] [.int ((v2 + (-1)) - 1), .ref (ad 20)] (met_X4_two (vL C) D ac ad Ex hLay hEx x3 (μ5.1 20 ((v2 + (-1)) - 1).toNatClampNeg) (μ5.1 20 (v2 + (-1)).toNatClampNeg) μ5 _ h) gw4_338 mf_X4_two rfl rfl rfl dX4_comes_135 (fun r9 μ8 h => ?_)
          obtain ⟨hin, h⟩ := h
          refine vv_iast hC hR hK 20 lm_20 hin dX4_comes_138 ?_
          refine vv_st (fun y e => ?_)
          obtain ⟨μ10, _⟩ := y
          have eμ10 := congrArg Prod.fst e
          clear e
          replace h := h μ10 eμ10
          refine vv_lv [2, 3, 0, 4] rfl ?_
          exact L139 _ h17 _ _ _ _ h
        · replace h := h.2 c7
          refine vv_aload_n hC dX4_comes_85 rfl 1 rfl ?_
          refine vv_getf hC hR hK fa4_74 0 lm_0 (fm_28 ad _ _ _) dX4_comes_86 ?_
          refine vv_iload_n hC dX4_comes_89 rfl 3 rfl ?_
          refine vv_aload_n hC dX4_comes_90 rfl 1 rfl ?_
          refine vv_iload hC dX4_comes_91 0 rfl ?_
          refine vv_aload_n hC dX4_comes_93 rfl 1 rfl ?_
          refine vv_getf hC hR hK fa4_65 0 lm_0 (fm_25 ad _ _ _) dX4_comes_94 ?_
          refine vv_iload_n hC dX4_comes_97 rfl 4 rfl ?_
          obtain ⟨hin, h⟩ := h
          refine vv_iald hC hR hK 17 lm_17 hin dX4_comes_98 ?_
          refine vv_callVi hC hR hK hRo hRm [.int x3, .int (μ5.1 17 v3.toNatClampNeg)] [.int v2, .ref (ad 20)] (met_X4_asked (vL C) D ac ad Ex hLay hEx x3 (μ5.1 17 v3.toNatClampNeg) μ5 _ h) gw4_335 mf_X4_asked rfl lm_0 rfl rfl rfl rfl dX4_comes_99 (fun r12 μ11 h => ?_)
          obtain ⟨hin, h⟩ := h
          refine vv_iast hC hR hK 20 lm_20 hin dX4_comes_102 ?_
          refine vv_st (fun y e => ?_)
          obtain ⟨μ13, _⟩ := y
          have eμ13 := congrArg Prod.fst e
          clear e
          replace h := h μ13 eμ13
          refine vv_iinc (pl := 3) (v := v2 + 1) (lv' := [(2, .int (v2 + 1)), (4, .int x3), (0, .ref (ad 0)), (1, .int v1), (3, .int v3)]) hC dX4_comes_103 rfl rfl (by decide) rfl ?_
          refine vv_goto (tgt := 139) hC dX4_comes_106 rfl ?_
          refine vv_lv [2, 3, 0, 4] rfl ?_
          exact L139 _ h17 _ _ _ _ h
      · replace h := h.2 c4
        refine vv_aload_n hC dX4_comes_50 rfl 1 rfl ?_
        refine vv_getf hC hR hK fa4_74 0 lm_0 (fm_28 ad _ _ _) dX4_comes_51 ?_
        refine vv_iload_n hC dX4_comes_54 rfl 3 rfl ?_
        refine vv_iconst hC dX4_comes_55 ic_1 ?_
        refine vv_isub hC dX4_comes_56 ?_
        refine vv_aload_n hC dX4_comes_57 rfl 1 rfl ?_
        refine vv_getf hC hR hK fa4_74 0 lm_0 (fm_28 ad _ _ _) dX4_comes_58 ?_
        refine vv_iload_n hC dX4_comes_61 rfl 3 rfl ?_
        refine vv_iconst hC dX4_comes_62 ic_1 ?_
        refine vv_isub hC dX4_comes_63 ?_
        obtain ⟨hin, h⟩ := h
        refine vv_iald hC hR hK 20 lm_20 hin dX4_comes_64 ?_
        refine vv_if_ne (tgt := 72) hC dX4_comes_65 rfl (fun c14 => ?_) (fun c14 => ?_)
        · replace h := h.1 c14
          refine vv_iconst hC dX4_comes_72 ic_0 ?_
          refine vv_lv [1, 2, 3, 4] rfl ?_
          exact L73 _ h17 _ _ _ _ _ _ h
        · replace h := h.2 c14
          refine vv_iconst hC dX4_comes_68 ic_1 ?_
          refine vv_goto (tgt := 73) hC dX4_comes_69 rfl ?_
          refine vv_lv [1, 2, 3, 4] rfl ?_
          exact L73 _ h17 _ _ _ _ _ _ h
  unfold w_X4_comes at h
  refine vv_iconst hC dX4_comes_0 ic_0 ?_
  refine vv_istore_n (lv' := [(2, .int 0), (0, .ref (ad 0)), (1, .int v1)]) hC dX4_comes_1 rfl (by decide) rfl ?_
  refine vv_aload_n hC dX4_comes_2 rfl 1 rfl ?_
  refine vv_getf hC hR hK fa4_42 0 lm_0 (fm_18 ad _ _ _) dX4_comes_3 ?_
  refine vv_bipush hC dX4_comes_6 bp_8 ?_
  refine vv_aload_n hC dX4_comes_8 rfl 1 rfl ?_
  refine vv_getf hC hR hK fa4_250 0 lm_0 (fm_29 ad _ _ _) dX4_comes_9 ?_
  refine vv_imul hC dX4_comes_12 ?_
  refine vv_iload_n hC dX4_comes_13 rfl 2 rfl ?_
  refine vv_iadd hC dX4_comes_14 ?_
  obtain ⟨hin, h⟩ := h
  refine vv_iald hC hR hK 10 lm_10 hin dX4_comes_15 ?_
  refine vv_topi (fun x1 ex1 => ?_)
  replace h := h x1 ex1
  refine vv_istore_n (lv' := [(3, .int x1), (2, .int 0), (0, .ref (ad 0)), (1, .int v1)]) hC dX4_comes_16 rfl (by decide) rfl ?_
  refine vv_lv [2, 3, 1, 0] rfl ?_
  exact L17  _ _ _ _ h
def w_X4_castOf_128 (P37 : Int32 → Int32 → Int32 → WS → Prop) (v2 : Int32) (v5 : Int32) (v6 : Int32) (μ : WS) (Q : Int32 → WS → Prop) : Prop := P37 v2 v5 (v6 + 1) μ
def w_X4_castOf_112 (P37 : Int32 → Int32 → Int32 → WS → Prop) (s0 : Int32) (v2 : Int32) (v5 : Int32) (v6 : Int32) (μ : WS) (Q : Int32 → WS → Prop) : Prop := ((s0 = 0) → w_X4_castOf_128 P37 v2 v5 v6 μ Q) ∧ ((¬ s0 = 0) → (∀ x22 : Int32, x22 = v5 ||| (1 <<< (v6 &&& 31)) → w_X4_castOf_128 P37 v2 x22 v6 μ Q))
def w_X4_castOf_70 (P37 : Int32 → Int32 → Int32 → WS → Prop) (s0 : Int32) (v2 : Int32) (v5 : Int32) (v6 : Int32) (μ : WS) (Q : Int32 → WS → Prop) : Prop := ((s0 = 0) → (w_X4_comes ((2 * v2) + 1) μ (fun r16 μ15 => ((r16 = 0) → w_X4_castOf_112 P37 0 v2 v5 v6 μ15 Q) ∧ ((¬ r16 = 0) → w_X4_castOf_112 P37 1 v2 v5 v6 μ15 Q)))) ∧ ((¬ s0 = 0) → (w_X4_comes (2 * v2) μ (fun r19 μ18 => ((¬ r19 = 0) → w_X4_castOf_112 P37 0 v2 v5 v6 μ18 Q) ∧ ((r19 = 0) → w_X4_castOf_112 P37 1 v2 v5 v6 μ18 Q))))
def w_X4_castOf_37b (P37 : Int32 → Int32 → Int32 → WS → Prop) (v2 : Int32) (v5 : Int32) (v6 : Int32) (μ : WS) (Q : Int32 → WS → Prop) : Prop := (w_X4_width μ (fun r10 μ9 => ((r10 ≤ v6) → Q v5 μ9) ∧ ((¬ r10 ≤ v6) → (∀ μ12 : WS, μ12 = wset μ9 0 36 v6 → ((¬ ((μ12.1 0 35) >>> (v6 &&& 31)) &&& 1 = 1) → w_X4_castOf_70 P37 0 v2 v5 v6 μ12 Q) ∧ ((((μ12.1 0 35) >>> (v6 &&& 31)) &&& 1 = 1) → w_X4_castOf_70 P37 1 v2 v5 v6 μ12 Q)))))
def w_X4_castOf_37 (v2 : Int32) (v5 : Int32) (v6 : Int32) (μ : WS) (Q : Int32 → WS → Prop) : Prop := ∀ P37 : Int32 → Int32 → Int32 → WS → Prop, (∀ (v2 : Int32) (v5 : Int32) (v6 : Int32) (μ : WS), w_X4_castOf_37b  P37 v2 v5 v6 μ Q → P37 v2 v5 v6 μ) → P37 v2 v5 v6 μ
def w_X4_castOf (v1 : Int32) (v2 : Int32) (v3 : Int32) (v4 : Int32) (μ : WS) (Q : Int32 → WS → Prop) : Prop := (w_X4_turnedRow v1 μ (fun r2 μ1 => (∀ μ3 : WS, μ3 = wset μ1 0 35 r2 → (w_X4_bitsOf (μ3.1 0 35) μ3 (fun r5 μ4 => (∀ μ6 : WS, μ6 = wset μ4 0 37 r5 → (∀ μ7 : WS, μ7 = wset μ6 0 38 v3 → (∀ μ8 : WS, μ8 = wset μ7 0 39 v4 → w_X4_castOf_37 v2 0 0 μ8 Q))))))))
abbrev rm_X4_castOf : Room := { frames := 2, cells := 0, slots := 0, locals := 46 }
theorem mf_X4_castOf : MFact yX4_castOf 4 rm_X4_castOf := ⟨by decide +kernel, rfl, rfl⟩
set_option maxHeartbeats 4000000 in
theorem met_X4_castOf (l : Launch) (D : va_G) (ac : Nat → ClassId) (ad : Nat → Nat) (Ex : Heap → Prop) (hLay : LayOk ad knM) (hEx : ExOk ad knM Ex) (v1 : Int32) (v2 : Int32) (v3 : Int32) (v4 : Int32) (μ : WS) (Q : Int32 → WS → Prop) (h : w_X4_castOf v1 v2 v3 v4 μ Q) : CMet l yX4_castOf cX4_castOf 9 (some .int) rm_X4_castOf D ac ad knM Ex [.ref (ad 0), .int v1, .int v2, .int v3, .int v4] μ (qI Q) := by
  refine vv_met (lv := [(0, .ref (ad 0)), (1, .int v1), (2, .int v2), (3, .int v3), (4, .int v4)]) (by decide) hLay hEx (Nat.le_of_ble_eq_true rfl) rfl ⟨rfl, rfl⟩ (fun C hC hK hRm hLl hR hM => ?_)
  subst hLl
  have hRo : RoomOk (HPW D ac ad knM Ex (vS C)) (vR C) := HPW.room
  have L128 : ∀ (P37 : Int32 → Int32 → Int32 → WS → Prop) (h37 : ∀ (v2 : Int32) (v5 : Int32) (v6 : Int32) (μ : WS), P37 v2 v5 v6 μ → VV C 9 (HPW D ac ad knM Ex (vS C)) (vQ C (QcW D ac ad knM (qI Q)) 0 0 (inLay ad knM)) (μ, ()) 37 [(0, .ref (ad 0)), (2, .int v2), (5, .int v5), (6, .int v6)] []) (v2 : Int32) (v5 : Int32) (v6 : Int32) (μ : WS), w_X4_castOf_128 P37 v2 v5 v6 μ Q → VV C 9 (HPW D ac ad knM Ex (vS C)) (vQ C (QcW D ac ad knM (qI Q)) 0 0 (inLay ad knM)) (μ, ()) 128 [(0, .ref (ad 0)), (2, .int v2), (5, .int v5), (6, .int v6)] [] := by
    intro P37 h37 v2 v5 v6 μ h
    unfold w_X4_castOf_128 at h
    refine vv_iinc (pl := 3) (v := v6 + 1) (lv' := [(6, .int (v6 + 1)), (0, .ref (ad 0)), (2, .int v2), (5, .int v5)]) hC dX4_castOf_128 rfl rfl (by decide) rfl ?_
    refine vv_goto (tgt := 37) hC dX4_castOf_131 rfl ?_
    refine vv_lv [1, 2, 3, 0] rfl ?_
    exact h37 _ _ _ _ h
  have L112 : ∀ (P37 : Int32 → Int32 → Int32 → WS → Prop) (h37 : ∀ (v2 : Int32) (v5 : Int32) (v6 : Int32) (μ : WS), P37 v2 v5 v6 μ → VV C 9 (HPW D ac ad knM Ex (vS C)) (vQ C (QcW D ac ad knM (qI Q)) 0 0 (inLay ad knM)) (μ, ()) 37 [(0, .ref (ad 0)), (2, .int v2), (5, .int v5), (6, .int v6)] []) (s0 : Int32) (v2 : Int32) (v5 : Int32) (v6 : Int32) (μ : WS), w_X4_castOf_112 P37 s0 v2 v5 v6 μ Q → VV C 9 (HPW D ac ad knM Ex (vS C)) (vQ C (QcW D ac ad knM (qI Q)) 0 0 (inLay ad knM)) (μ, ()) 112 [(0, .ref (ad 0)), (2, .int v2), (5, .int v5), (6, .int v6)] [.int s0] := by
    intro P37 h37 s0 v2 v5 v6 μ h
    unfold w_X4_castOf_112 at h
    refine vv_istore (lv' := [(8, .int s0), (0, .ref (ad 0)), (2, .int v2), (5, .int v5), (6, .int v6)]) hC dX4_castOf_112 (by decide) rfl ?_
    refine vv_iload hC dX4_castOf_114 0 rfl ?_
    refine vv_if_eq (tgt := 128) hC dX4_castOf_116 rfl (fun c21 => ?_) (fun c21 => ?_)
    · replace h := h.1 c21
      refine vv_lv [1, 2, 3, 4] rfl ?_
      exact L128 _ h37 _ _ _ _ h
    · replace h := h.2 c21
      refine vv_iload hC dX4_castOf_119 3 rfl ?_
      refine vv_iconst hC dX4_castOf_121 ic_1 ?_
      refine vv_iload hC dX4_castOf_122 4 rfl ?_
      refine vv_ishl hC dX4_castOf_124 ?_
      refine vv_ior hC dX4_castOf_125 ?_
      refine vv_topi (fun x22 ex22 => ?_)
      replace h := h x22 ex22
      refine vv_istore (lv' := [(5, .int x22), (8, .int s0), (0, .ref (ad 0)), (2, .int v2), (6, .int v6)]) hC dX4_castOf_126 (by decide) rfl ?_
      refine vv_lv [2, 3, 0, 4] rfl ?_
      exact L128 _ h37 _ _ _ _ h
  have L70 : ∀ (P37 : Int32 → Int32 → Int32 → WS → Prop) (h37 : ∀ (v2 : Int32) (v5 : Int32) (v6 : Int32) (μ : WS), P37 v2 v5 v6 μ → VV C 9 (HPW D ac ad knM Ex (vS C)) (vQ C (QcW D ac ad knM (qI Q)) 0 0 (inLay ad knM)) (μ, ()) 37 [(0, .ref (ad 0)), (2, .int v2), (5, .int v5), (6, .int v6)] []) (s0 : Int32) (v2 : Int32) (v5 : Int32) (v6 : Int32) (μ : WS), w_X4_castOf_70 P37 s0 v2 v5 v6 μ Q → VV C 9 (HPW D ac ad knM Ex (vS C)) (vQ C (QcW D ac ad knM (qI Q)) 0 0 (inLay ad knM)) (μ, ()) 70 [(0, .ref (ad 0)), (2, .int v2), (5, .int v5), (6, .int v6)] [.int s0] := by
    intro P37 h37 s0 v2 v5 v6 μ h
    unfold w_X4_castOf_70 at h
    refine vv_istore (lv' := [(7, .int s0), (0, .ref (ad 0)), (2, .int v2), (5, .int v5), (6, .int v6)]) hC dX4_castOf_70 (by decide) rfl ?_
    refine vv_iload hC dX4_castOf_72 0 rfl ?_
    refine vv_if_eq (tgt := 95) hC dX4_castOf_74 rfl (fun c14 => ?_) (fun c14 => ?_)
    · replace h := h.1 c14
      refine vv_aload_n hC dX4_castOf_95 rfl 1 rfl ?_
      refine vv_iconst hC dX4_castOf_96 ic_2 ?_
      refine vv_iload_n hC dX4_castOf_97 rfl 2 rfl ?_
      refine vv_imul hC dX4_castOf_98 ?_
      refine vv_iconst hC dX4_castOf_99 ic_1 ?_
      refine vv_iadd hC dX4_castOf_100 ?_
      refine vv_callVi hC hR hK hRo hRm [.int ((2 * v2) + 1)] [] (met_X4_comes (vL C) D ac ad Ex hLay hEx ((2 * v2) + 1) μ _ h) gw4_355 mf_X4_comes rfl lm_0 rfl rfl rfl rfl dX4_castOf_101 (fun r16 μ15 h => ?_)
      refine vv_if_eq (tgt := 111) hC dX4_castOf_104 rfl (fun c17 => ?_) (fun c17 => ?_)
      · replace h := h.1 c17
        refine vv_iconst hC dX4_castOf_111 ic_0 ?_
        refine vv_lv [1, 2, 3, 4] rfl ?_
        exact L112 _ h37 _ _ _ _ _ h
      · replace h := h.2 c17
        refine vv_iconst hC dX4_castOf_107 ic_1 ?_
        refine vv_goto (tgt := 112) hC dX4_castOf_108 rfl ?_
        refine vv_lv [1, 2, 3, 4] rfl ?_
        exact L112 _ h37 _ _ _ _ _ h
    · replace h := h.2 c14
      refine vv_aload_n hC dX4_castOf_77 rfl 1 rfl ?_
      refine vv_iconst hC dX4_castOf_78 ic_2 ?_
      refine vv_iload_n hC dX4_castOf_79 rfl 2 rfl ?_
      refine vv_imul hC dX4_castOf_80 ?_
      refine vv_callVi hC hR hK hRo hRm [.int (2 * v2)] [] (met_X4_comes (vL C) D ac ad Ex hLay hEx (2 * v2) μ _ h) gw4_355 mf_X4_comes rfl lm_0 rfl rfl rfl rfl dX4_castOf_81 (fun r19 μ18 h => ?_)
      refine vv_if_ne (tgt := 91) hC dX4_castOf_84 rfl (fun c20 => ?_) (fun c20 => ?_)
      · replace h := h.1 c20
        refine vv_iconst hC dX4_castOf_91 ic_0 ?_
        refine vv_goto (tgt := 112) hC dX4_castOf_92 rfl ?_
        refine vv_lv [1, 2, 3, 4] rfl ?_
        exact L112 _ h37 _ _ _ _ _ h
      · replace h := h.2 c20
        refine vv_iconst hC dX4_castOf_87 ic_1 ?_
        refine vv_goto (tgt := 112) hC dX4_castOf_88 rfl ?_
        refine vv_lv [1, 2, 3, 4] rfl ?_
        exact L112 _ h37 _ _ _ _ _ h
  have L37 : ∀ (v2 : Int32) (v5 : Int32) (v6 : Int32) (μ : WS), w_X4_castOf_37  v2 v5 v6 μ Q → VV C 9 (HPW D ac ad knM Ex (vS C)) (vQ C (QcW D ac ad knM (qI Q)) 0 0 (inLay ad knM)) (μ, ()) 37 [(0, .ref (ad 0)), (2, .int v2), (5, .int v5), (6, .int v6)] [] := by
    intro  v2 v5 v6 μ h
    refine h (fun v2 v5 v6 μ => VV C 9 (HPW D ac ad knM Ex (vS C)) (vQ C (QcW D ac ad knM (qI Q)) 0 0 (inLay ad knM)) (μ, ()) 37 [(0, .ref (ad 0)), (2, .int v2), (5, .int v5), (6, .int v6)] []) ?_
    clear h; intro v2 v5 v6 μ h
    have h37 : ∀ (v2 : Int32) (v5 : Int32) (v6 : Int32) (μ : WS), (fun v2 v5 v6 (μ : WS) => VV C 9 (HPW D ac ad knM Ex (vS C)) (vQ C (QcW D ac ad knM (qI Q)) 0 0 (inLay ad knM)) (μ, ()) 37 [(0, .ref (ad 0)), (2, .int v2), (5, .int v5), (6, .int v6)] []) v2 v5 v6 μ → VV C 9 (HPW D ac ad knM Ex (vS C)) (vQ C (QcW D ac ad knM (qI Q)) 0 0 (inLay ad knM)) (μ, ()) 37 [(0, .ref (ad 0)), (2, .int v2), (5, .int v5), (6, .int v6)] [] := fun _ _ _ _ h => h
    unfold w_X4_castOf_37b at h
    refine vv_iload hC dX4_castOf_37 3 rfl ?_
    refine vv_aload_n hC dX4_castOf_39 rfl 0 rfl ?_
    refine vv_callVi hC hR hK hRo hRm [] [.int v6] (met_X4_width (vL C) D ac ad Ex hLay hEx  μ _ h) gw4_342 mf_X4_width rfl lm_0 rfl rfl rfl rfl dX4_castOf_40 (fun r10 μ9 h => ?_)
    refine vv_icmp_ge (tgt := 134) hC dX4_castOf_43 rfl (fun c11 => ?_) (fun c11 => ?_)
    · replace h := h.1 c11
      refine vv_iload hC dX4_castOf_134 2 rfl ?_
      exact vv_iret hC hM dX4_castOf_136 h
    · replace h := h.2 c11
      refine vv_aload_n hC dX4_castOf_46 rfl 0 rfl ?_
      refine vv_iload hC dX4_castOf_47 3 rfl ?_
      refine vv_puti hC hR hK fa4_320 0 lm_0 fn_36 rfl rfl dX4_castOf_49 ?_
      refine vv_st (fun y e => ?_)
      obtain ⟨μ12, _⟩ := y
      have eμ12 := congrArg Prod.fst e
      clear e
      replace h := h μ12 eμ12
      refine vv_aload_n hC dX4_castOf_52 rfl 0 rfl ?_
      refine vv_getf hC hR hK fa4_323 0 lm_0 (fm_35 ad _ _ _) dX4_castOf_53 ?_
      refine vv_iload hC dX4_castOf_56 3 rfl ?_
      refine vv_ishr hC dX4_castOf_58 ?_
      refine vv_iconst hC dX4_castOf_59 ic_1 ?_
      refine vv_iand hC dX4_castOf_60 ?_
      refine vv_iconst hC dX4_castOf_61 ic_1 ?_
      refine vv_icmp_ne (tgt := 69) hC dX4_castOf_62 rfl (fun c13 => ?_) (fun c13 => ?_)
      · replace h := h.1 c13
        refine vv_iconst hC dX4_castOf_69 ic_0 ?_
        exact L70 _ h37 _ _ _ _ _ h
      · replace h := h.2 c13
        refine vv_iconst hC dX4_castOf_65 ic_1 ?_
        refine vv_goto (tgt := 70) hC dX4_castOf_66 rfl ?_
        exact L70 _ h37 _ _ _ _ _ h
  unfold w_X4_castOf at h
  refine vv_aload_n hC dX4_castOf_0 rfl 0 rfl ?_
  refine vv_aload_n hC dX4_castOf_1 rfl 0 rfl ?_
  refine vv_iload_n hC dX4_castOf_2 rfl 1 rfl ?_
  refine vv_callVi hC hR hK hRo hRm [.int v1] [.ref (ad 0)] (met_X4_turnedRow (vL C) D ac ad Ex hLay hEx v1 μ _ h) gw4_349 mf_X4_turnedRow rfl lm_0 rfl rfl rfl rfl dX4_castOf_3 (fun r2 μ1 h => ?_)
  refine vv_puti hC hR hK fa4_323 0 lm_0 fn_35 rfl rfl dX4_castOf_6 ?_
  refine vv_st (fun y e => ?_)
  obtain ⟨μ3, _⟩ := y
  have eμ3 := congrArg Prod.fst e
  clear e
  replace h := h μ3 eμ3
  refine vv_aload_n hC dX4_castOf_9 rfl 0 rfl ?_
  refine vv_aload_n hC dX4_castOf_10 rfl 0 rfl ?_
  refine vv_getf hC hR hK fa4_323 0 lm_0 (fm_35 ad _ _ _) dX4_castOf_11 ?_
  refine vv_callSi hC hR hK hRo hRm [.int (μ3.1 0 35)] [.ref (ad 0)] (met_X4_bitsOf (vL C) D ac ad Ex hLay hEx (μ3.1 0 35) μ3 _ h) gw4_352 mf_X4_bitsOf rfl rfl rfl dX4_castOf_14 (fun r5 μ4 h => ?_)
  refine vv_puti hC hR hK fa4_326 0 lm_0 fn_37 rfl rfl dX4_castOf_17 ?_
  refine vv_st (fun y e => ?_)
  obtain ⟨μ6, _⟩ := y
  have eμ6 := congrArg Prod.fst e
  clear e
  replace h := h μ6 eμ6
  refine vv_aload_n hC dX4_castOf_20 rfl 0 rfl ?_
  refine vv_iload_n hC dX4_castOf_21 rfl 3 rfl ?_
  refine vv_puti hC hR hK fa4_329 0 lm_0 fn_38 rfl rfl dX4_castOf_22 ?_
  refine vv_st (fun y e => ?_)
  obtain ⟨μ7, _⟩ := y
  have eμ7 := congrArg Prod.fst e
  clear e
  replace h := h μ7 eμ7
  refine vv_aload_n hC dX4_castOf_25 rfl 0 rfl ?_
  refine vv_iload hC dX4_castOf_26 4 rfl ?_
  refine vv_puti hC hR hK fa4_332 0 lm_0 fn_39 rfl rfl dX4_castOf_28 ?_
  refine vv_st (fun y e => ?_)
  obtain ⟨μ8, _⟩ := y
  have eμ8 := congrArg Prod.fst e
  clear e
  replace h := h μ8 eμ8
  refine vv_iconst hC dX4_castOf_31 ic_0 ?_
  refine vv_istore (lv' := [(5, .int 0), (0, .ref (ad 0)), (1, .int v1), (2, .int v2), (3, .int v3), (4, .int v4)]) hC dX4_castOf_32 (by decide) rfl ?_
  refine vv_iconst hC dX4_castOf_34 ic_0 ?_
  refine vv_istore (lv' := [(6, .int 0), (5, .int 0), (0, .ref (ad 0)), (1, .int v1), (2, .int v2), (3, .int v3), (4, .int v4)]) hC dX4_castOf_35 (by decide) rfl ?_
  refine vv_lv [2, 4, 1, 0] rfl ?_
  exact L37  _ _ _ _ h
def w_X4_would (v1 : Int32) (v2 : Int32) (v3 : Int32) (v4 : Int32) (μ : WS) (Q : Int32 → WS → Prop) : Prop := (w_X4_isRow v1 μ (fun r2 μ1 => ((r2 = 0) → Q (-1) μ1) ∧ ((¬ r2 = 0) → (w_X4_isHand v2 μ1 (fun r5 μ4 => ((r5 = 0) → Q (-1) μ4) ∧ ((¬ r5 = 0) → (w_X4_isHeat v3 μ4 (fun r8 μ7 => ((r8 = 0) → Q (-1) μ7) ∧ ((¬ r8 = 0) → (w_X4_isIn v4 0 99 μ7 (fun r11 μ10 => ((r11 = 0) → Q (-1) μ10) ∧ ((¬ r11 = 0) → (w_X4_castOf v1 v2 v3 v4 μ10 (fun r14 μ13 => Q r14 μ13))))))))))))))
abbrev rm_X4_would : Room := { frames := 3, cells := 0, slots := 0, locals := 74 }
theorem mf_X4_would : MFact yX4_would 4 rm_X4_would := ⟨by decide +kernel, rfl, rfl⟩
set_option maxHeartbeats 4000000 in
theorem met_X4_would (l : Launch) (D : va_G) (ac : Nat → ClassId) (ad : Nat → Nat) (Ex : Heap → Prop) (hLay : LayOk ad knM) (hEx : ExOk ad knM Ex) (v1 : Int32) (v2 : Int32) (v3 : Int32) (v4 : Int32) (μ : WS) (Q : Int32 → WS → Prop) (h : w_X4_would v1 v2 v3 v4 μ Q) : CMet l yX4_would cX4_would 5 (some .int) rm_X4_would D ac ad knM Ex [.ref (ad 0), .int v1, .int v2, .int v3, .int v4] μ (qI Q) := by
  refine vv_met (lv := [(0, .ref (ad 0)), (1, .int v1), (2, .int v2), (3, .int v3), (4, .int v4)]) (by decide) hLay hEx (Nat.le_of_ble_eq_true rfl) rfl ⟨rfl, rfl⟩ (fun C hC hK hRm hLl hR hM => ?_)
  subst hLl
  have hRo : RoomOk (HPW D ac ad knM Ex (vS C)) (vR C) := HPW.room
  unfold w_X4_would at h
  refine vv_aload_n hC dX4_would_0 rfl 0 rfl ?_
  refine vv_iload_n hC dX4_would_1 rfl 1 rfl ?_
  refine vv_callVi hC hR hK hRo hRm [.int v1] [] (met_X4_isRow (vL C) D ac ad Ex hLay hEx v1 μ _ h) gw4_358 mf_X4_isRow rfl lm_0 rfl rfl rfl rfl dX4_would_2 (fun r2 μ1 h => ?_)
  refine vv_if_eq (tgt := 46) hC dX4_would_5 rfl (fun c3 => ?_) (fun c3 => ?_)
  · replace h := h.1 c3
    refine vv_iconst hC dX4_would_46 ic_m1 ?_
    exact vv_iret hC hM dX4_would_47 h
  · replace h := h.2 c3
    refine vv_aload_n hC dX4_would_8 rfl 0 rfl ?_
    refine vv_iload_n hC dX4_would_9 rfl 2 rfl ?_
    refine vv_callVi hC hR hK hRo hRm [.int v2] [] (met_X4_isHand (vL C) D ac ad Ex hLay hEx v2 μ1 _ h) gw4_361 mf_X4_isHand rfl lm_0 rfl rfl rfl rfl dX4_would_10 (fun r5 μ4 h => ?_)
    refine vv_if_eq (tgt := 46) hC dX4_would_13 rfl (fun c6 => ?_) (fun c6 => ?_)
    · replace h := h.1 c6
      refine vv_iconst hC dX4_would_46 ic_m1 ?_
      exact vv_iret hC hM dX4_would_47 h
    · replace h := h.2 c6
      refine vv_iload_n hC dX4_would_16 rfl 3 rfl ?_
      refine vv_callSi hC hR hK hRo hRm [.int v3] [] (met_X4_isHeat (vL C) D ac ad Ex hLay hEx v3 μ4 _ h) gw4_364 mf_X4_isHeat rfl rfl rfl dX4_would_17 (fun r8 μ7 h => ?_)
      refine vv_if_eq (tgt := 46) hC dX4_would_20 rfl (fun c9 => ?_) (fun c9 => ?_)
      · replace h := h.1 c9
        refine vv_iconst hC dX4_would_46 ic_m1 ?_
        exact vv_iret hC hM dX4_would_47 h
      · replace h := h.2 c9
        refine vv_iload hC dX4_would_23 4 rfl ?_
        refine vv_iconst hC dX4_would_25 ic_0 ?_
        refine vv_bipush hC dX4_would_26 bp_99 ?_
        refine vv_callSi hC hR hK hRo hRm [.int v4, .int 0, .int 99] [] (met_X4_isIn (vL C) D ac ad Ex hLay hEx v4 0 99 μ7 _ h) gw4_345 mf_X4_isIn rfl rfl rfl dX4_would_28 (fun r11 μ10 h => ?_)
        refine vv_if_eq (tgt := 46) hC dX4_would_31 rfl (fun c12 => ?_) (fun c12 => ?_)
        · replace h := h.1 c12
          refine vv_iconst hC dX4_would_46 ic_m1 ?_
          exact vv_iret hC hM dX4_would_47 h
        · replace h := h.2 c12
          refine vv_aload_n hC dX4_would_34 rfl 0 rfl ?_
          refine vv_iload_n hC dX4_would_35 rfl 1 rfl ?_
          refine vv_iload_n hC dX4_would_36 rfl 2 rfl ?_
          refine vv_iload_n hC dX4_would_37 rfl 3 rfl ?_
          refine vv_iload hC dX4_would_38 4 rfl ?_
          refine vv_callVi hC hR hK hRo hRm [.int v1, .int v2, .int v3, .int v4] [] (met_X4_castOf (vL C) D ac ad Ex hLay hEx v1 v2 v3 v4 μ10 _ h) gw4_367 mf_X4_castOf rfl lm_0 rfl rfl rfl rfl dX4_would_40 (fun r14 μ13 h => ?_)
          refine vv_goto (tgt := 47) hC dX4_would_43 rfl ?_
          exact vv_iret hC hM dX4_would_47 h
def w_X4_isSeal (v1 : Int32) (μ : WS) (Q : Int32 → WS → Prop) : Prop := (w_X4_isIn v1 0 ((μ.1 21 216) - 1) μ (fun r2 μ1 => isB r2 ∧ Q r2 μ1))
abbrev rm_X4_isSeal : Room := { frames := 1, cells := 0, slots := 0, locals := 22 }
theorem mf_X4_isSeal : MFact yX4_isSeal 1 rm_X4_isSeal := ⟨by decide +kernel, rfl, rfl⟩
set_option maxHeartbeats 4000000 in
theorem met_X4_isSeal (l : Launch) (D : va_G) (ac : Nat → ClassId) (ad : Nat → Nat) (Ex : Heap → Prop) (hLay : LayOk ad knM) (hEx : ExOk ad knM Ex) (v1 : Int32) (μ : WS) (Q : Int32 → WS → Prop) (h : w_X4_isSeal v1 μ Q) : CMet l yX4_isSeal cX4_isSeal 2 (some .boolean) rm_X4_isSeal D ac ad knM Ex [.ref (ad 0), .int v1] μ (qI Q) := by
  refine vv_met (lv := [(0, .ref (ad 0)), (1, .int v1)]) (by decide) hLay hEx (Nat.le_of_ble_eq_true rfl) rfl ⟨rfl, rfl⟩ (fun C hC hK hRm hLl hR hM => ?_)
  subst hLl
  have hRo : RoomOk (HPW D ac ad knM Ex (vS C)) (vR C) := HPW.room
  unfold w_X4_isSeal at h
  refine vv_iload_n hC dX4_isSeal_0 rfl 1 rfl ?_
  refine vv_iconst hC dX4_isSeal_1 ic_0 ?_
  refine vv_aload_n hC dX4_isSeal_2 rfl 0 rfl ?_
  refine vv_getf hC hR hK fa4_77 0 lm_0 (fm_40 ad _ _ _) dX4_isSeal_3 ?_
  refine vv_sipush hC dX4_isSeal_6 sp_216 ?_
  refine vv_iald hC hR hK 21 lm_21 vin_216_221 dX4_isSeal_9 ?_
  refine vv_iconst hC dX4_isSeal_10 ic_1 ?_
  refine vv_isub hC dX4_isSeal_11 ?_
  refine vv_callSi hC hR hK hRo hRm [.int v1, .int 0, .int ((μ.1 21 216) - 1)] [] (met_X4_isIn (vL C) D ac ad Ex hLay hEx v1 0 ((μ.1 21 216) - 1) μ _ h) gw4_345 mf_X4_isIn rfl rfl rfl dX4_isSeal_12 (fun r2 μ1 h => ?_)
  exact vv_zret hC hM dX4_isSeal_15 h.1 h.2
def w_X4_deep_4b (P4 : Int32 → Int32 → WS → Prop) (v2 : Int32) (v3 : Int32) (μ : WS) (Q : Int32 → WS → Prop) : Prop := ((v3 ≤ 0) → Q v2 μ) ∧ ((¬ v3 ≤ 0) → (vp_in ((4 * v3) + 1) 221 ∧ (∀ x2 : Int32, x2 = μ.1 21 ((4 * v3) + 1).toNatClampNeg → P4 (v2 + 1) x2 μ)))
def w_X4_deep_4 (v2 : Int32) (v3 : Int32) (μ : WS) (Q : Int32 → WS → Prop) : Prop := ∀ P4 : Int32 → Int32 → WS → Prop, (∀ (v2 : Int32) (v3 : Int32) (μ : WS), w_X4_deep_4b  P4 v2 v3 μ Q → P4 v2 v3 μ) → P4 v2 v3 μ
def w_X4_deep (v1 : Int32) (μ : WS) (Q : Int32 → WS → Prop) : Prop := w_X4_deep_4 0 v1 μ Q
abbrev rm_X4_deep : Room := { frames := 0, cells := 0, slots := 0, locals := 0 }
theorem mf_X4_deep : MFact yX4_deep 1 rm_X4_deep := ⟨by decide +kernel, rfl, rfl⟩
set_option maxHeartbeats 4000000 in
theorem met_X4_deep (l : Launch) (D : va_G) (ac : Nat → ClassId) (ad : Nat → Nat) (Ex : Heap → Prop) (hLay : LayOk ad knM) (hEx : ExOk ad knM Ex) (v1 : Int32) (μ : WS) (Q : Int32 → WS → Prop) (h : w_X4_deep v1 μ Q) : CMet l yX4_deep cX4_deep 4 (some .int) rm_X4_deep D ac ad knM Ex [.ref (ad 0), .int v1] μ (qI Q) := by
  refine vv_met (lv := [(0, .ref (ad 0)), (1, .int v1)]) (by decide) hLay hEx (Nat.le_of_ble_eq_true rfl) rfl ⟨rfl, rfl⟩ (fun C hC hK hRm hLl hR hM => ?_)
  subst hLl
  have hRo : RoomOk (HPW D ac ad knM Ex (vS C)) (vR C) := HPW.room
  have L4 : ∀ (v2 : Int32) (v3 : Int32) (μ : WS), w_X4_deep_4  v2 v3 μ Q → VV C 4 (HPW D ac ad knM Ex (vS C)) (vQ C (QcW D ac ad knM (qI Q)) 0 0 (inLay ad knM)) (μ, ()) 4 [(0, .ref (ad 0)), (2, .int v2), (3, .int v3)] [] := by
    intro  v2 v3 μ h
    refine h (fun v2 v3 μ => VV C 4 (HPW D ac ad knM Ex (vS C)) (vQ C (QcW D ac ad knM (qI Q)) 0 0 (inLay ad knM)) (μ, ()) 4 [(0, .ref (ad 0)), (2, .int v2), (3, .int v3)] []) ?_
    clear h; intro v2 v3 μ h
    have h4 : ∀ (v2 : Int32) (v3 : Int32) (μ : WS), (fun v2 v3 (μ : WS) => VV C 4 (HPW D ac ad knM Ex (vS C)) (vQ C (QcW D ac ad knM (qI Q)) 0 0 (inLay ad knM)) (μ, ()) 4 [(0, .ref (ad 0)), (2, .int v2), (3, .int v3)] []) v2 v3 μ → VV C 4 (HPW D ac ad knM Ex (vS C)) (vQ C (QcW D ac ad knM (qI Q)) 0 0 (inLay ad knM)) (μ, ()) 4 [(0, .ref (ad 0)), (2, .int v2), (3, .int v3)] [] := fun _ _ _ h => h
    unfold w_X4_deep_4b at h
    refine vv_iload_n hC dX4_deep_4 rfl 2 rfl ?_
    refine vv_if_le (tgt := 25) hC dX4_deep_5 rfl (fun c1 => ?_) (fun c1 => ?_)
    · replace h := h.1 c1
      refine vv_iload_n hC dX4_deep_25 rfl 1 rfl ?_
      exact vv_iret hC hM dX4_deep_26 h
    · replace h := h.2 c1
      refine vv_iinc (pl := 1) (v := v2 + 1) (lv' := [(2, .int (v2 + 1)), (0, .ref (ad 0)), (3, .int v3)]) hC dX4_deep_8 rfl rfl (by decide) rfl ?_
      refine vv_aload_n hC dX4_deep_11 rfl 1 rfl ?_
      refine vv_getf hC hR hK fa4_77 0 lm_0 (fm_40 ad _ _ _) dX4_deep_12 ?_
      refine vv_iconst hC dX4_deep_15 ic_4 ?_
      refine vv_iload_n hC dX4_deep_16 rfl 2 rfl ?_
      refine vv_imul hC dX4_deep_17 ?_
      refine vv_iconst hC dX4_deep_18 ic_1 ?_
      refine vv_iadd hC dX4_deep_19 ?_
      obtain ⟨hin, h⟩ := h
      refine vv_iald hC hR hK 21 lm_21 hin dX4_deep_20 ?_
      refine vv_topi (fun x2 ex2 => ?_)
      replace h := h x2 ex2
      refine vv_istore_n (lv' := [(3, .int x2), (2, .int (v2 + 1)), (0, .ref (ad 0))]) hC dX4_deep_21 rfl (by decide) rfl ?_
      refine vv_goto (tgt := 4) hC dX4_deep_22 rfl ?_
      refine vv_lv [2, 1, 0] rfl ?_
      exact h4 _ _ _ h
  unfold w_X4_deep at h
  refine vv_iconst hC dX4_deep_0 ic_0 ?_
  refine vv_istore_n (lv' := [(2, .int 0), (0, .ref (ad 0)), (1, .int v1)]) hC dX4_deep_1 rfl (by decide) rfl ?_
  refine vv_iload_n hC dX4_deep_2 rfl 2 rfl ?_
  refine vv_istore_n (lv' := [(3, .int v1), (2, .int 0), (0, .ref (ad 0)), (1, .int v1)]) hC dX4_deep_3 rfl (by decide) rfl ?_
  refine vv_lv [2, 1, 0] rfl ?_
  exact L4  _ _ _ h
def w_X4_seal (v1 : Int32) (v2 : Int32) (μ : WS) (Q : Int32 → WS → Prop) : Prop := (w_X4_isSeal v1 μ (fun r2 μ1 => ((r2 = 0) → Q (-1) μ1) ∧ ((¬ r2 = 0) → (w_X4_isIn v2 0 4 μ1 (fun r5 μ4 => ((¬ r5 = 0) → ((¬ v2 = 4) → (vp_in ((4 * v1) + v2) 221 ∧ Q (μ4.1 21 ((4 * v1) + v2).toNatClampNeg) μ4)) ∧ ((v2 = 4) → (w_X4_deep v1 μ4 (fun r9 μ8 => Q r9 μ8)))) ∧ ((r5 = 0) → Q (-1) μ4))))))
abbrev rm_X4_seal : Room := { frames := 2, cells := 0, slots := 0, locals := 43 }
theorem mf_X4_seal : MFact yX4_seal 2 rm_X4_seal := ⟨by decide +kernel, rfl, rfl⟩
set_option maxHeartbeats 4000000 in
theorem met_X4_seal (l : Launch) (D : va_G) (ac : Nat → ClassId) (ad : Nat → Nat) (Ex : Heap → Prop) (hLay : LayOk ad knM) (hEx : ExOk ad knM Ex) (v1 : Int32) (v2 : Int32) (μ : WS) (Q : Int32 → WS → Prop) (h : w_X4_seal v1 v2 μ Q) : CMet l yX4_seal cX4_seal 3 (some .int) rm_X4_seal D ac ad knM Ex [.ref (ad 0), .int v1, .int v2] μ (qI Q) := by
  refine vv_met (lv := [(0, .ref (ad 0)), (1, .int v1), (2, .int v2)]) (by decide) hLay hEx (Nat.le_of_ble_eq_true rfl) rfl ⟨rfl, rfl⟩ (fun C hC hK hRm hLl hR hM => ?_)
  subst hLl
  have hRo : RoomOk (HPW D ac ad knM Ex (vS C)) (vR C) := HPW.room
  unfold w_X4_seal at h
  refine vv_aload_n hC dX4_seal_0 rfl 0 rfl ?_
  refine vv_iload_n hC dX4_seal_1 rfl 1 rfl ?_
  refine vv_callVi hC hR hK hRo hRm [.int v1] [] (met_X4_isSeal (vL C) D ac ad Ex hLay hEx v1 μ _ h) gw4_383 mf_X4_isSeal rfl lm_0 rfl rfl rfl rfl dX4_seal_2 (fun r2 μ1 h => ?_)
  refine vv_if_eq (tgt := 17) hC dX4_seal_5 rfl (fun c3 => ?_) (fun c3 => ?_)
  · replace h := h.1 c3
    refine vv_iconst hC dX4_seal_17 ic_m1 ?_
    refine vv_goto (tgt := 44) hC dX4_seal_18 rfl ?_
    exact vv_iret hC hM dX4_seal_44 h
  · replace h := h.2 c3
    refine vv_iload_n hC dX4_seal_8 rfl 2 rfl ?_
    refine vv_iconst hC dX4_seal_9 ic_0 ?_
    refine vv_iconst hC dX4_seal_10 ic_4 ?_
    refine vv_callSi hC hR hK hRo hRm [.int v2, .int 0, .int 4] [] (met_X4_isIn (vL C) D ac ad Ex hLay hEx v2 0 4 μ1 _ h) gw4_345 mf_X4_isIn rfl rfl rfl dX4_seal_11 (fun r5 μ4 h => ?_)
    refine vv_if_ne (tgt := 21) hC dX4_seal_14 rfl (fun c6 => ?_) (fun c6 => ?_)
    · replace h := h.1 c6
      refine vv_iload_n hC dX4_seal_21 rfl 2 rfl ?_
      refine vv_iconst hC dX4_seal_22 ic_4 ?_
      refine vv_icmp_ne (tgt := 34) hC dX4_seal_23 rfl (fun c7 => ?_) (fun c7 => ?_)
      · replace h := h.1 c7
        refine vv_aload_n hC dX4_seal_34 rfl 0 rfl ?_
        refine vv_getf hC hR hK fa4_77 0 lm_0 (fm_40 ad _ _ _) dX4_seal_35 ?_
        refine vv_iconst hC dX4_seal_38 ic_4 ?_
        refine vv_iload_n hC dX4_seal_39 rfl 1 rfl ?_
        refine vv_imul hC dX4_seal_40 ?_
        refine vv_iload_n hC dX4_seal_41 rfl 2 rfl ?_
        refine vv_iadd hC dX4_seal_42 ?_
        obtain ⟨hin, h⟩ := h
        refine vv_iald hC hR hK 21 lm_21 hin dX4_seal_43 ?_
        exact vv_iret hC hM dX4_seal_44 h
      · replace h := h.2 c7
        refine vv_aload_n hC dX4_seal_26 rfl 0 rfl ?_
        refine vv_iload_n hC dX4_seal_27 rfl 1 rfl ?_
        refine vv_callVi hC hR hK hRo hRm [.int v1] [] (met_X4_deep (vL C) D ac ad Ex hLay hEx v1 μ4 _ h) gw4_386 mf_X4_deep rfl lm_0 rfl rfl rfl rfl dX4_seal_28 (fun r9 μ8 h => ?_)
        refine vv_goto (tgt := 44) hC dX4_seal_31 rfl ?_
        exact vv_iret hC hM dX4_seal_44 h
    · replace h := h.2 c6
      refine vv_iconst hC dX4_seal_17 ic_m1 ?_
      refine vv_goto (tgt := 44) hC dX4_seal_18 rfl ?_
      exact vv_iret hC hM dX4_seal_44 h
def w_X4_shown (v1 : Int32) (v2 : Int32) (μ : WS) (Q : Int32 → WS → Prop) : Prop := (w_X4_isIn v1 0 ((μ.1 21 217) - 1) μ (fun r2 μ1 => ((r2 = 0) → Q (-1) μ1) ∧ ((¬ r2 = 0) → (w_X4_isIn v2 0 2 μ1 (fun r5 μ4 => ((r5 = 0) → Q (-1) μ4) ∧ ((¬ r5 = 0) → (vp_in ((96 + (3 * v1)) + v2) 221 ∧ Q (μ4.1 21 ((96 + (3 * v1)) + v2).toNatClampNeg) μ4)))))))
abbrev rm_X4_shown : Room := { frames := 1, cells := 0, slots := 0, locals := 22 }
theorem mf_X4_shown : MFact yX4_shown 2 rm_X4_shown := ⟨by decide +kernel, rfl, rfl⟩
set_option maxHeartbeats 4000000 in
theorem met_X4_shown (l : Launch) (D : va_G) (ac : Nat → ClassId) (ad : Nat → Nat) (Ex : Heap → Prop) (hLay : LayOk ad knM) (hEx : ExOk ad knM Ex) (v1 : Int32) (v2 : Int32) (μ : WS) (Q : Int32 → WS → Prop) (h : w_X4_shown v1 v2 μ Q) : CMet l yX4_shown cX4_shown 3 (some .int) rm_X4_shown D ac ad knM Ex [.ref (ad 0), .int v1, .int v2] μ (qI Q) := by
  refine vv_met (lv := [(0, .ref (ad 0)), (1, .int v1), (2, .int v2)]) (by decide) hLay hEx (Nat.le_of_ble_eq_true rfl) rfl ⟨rfl, rfl⟩ (fun C hC hK hRm hLl hR hM => ?_)
  subst hLl
  have hRo : RoomOk (HPW D ac ad knM Ex (vS C)) (vR C) := HPW.room
  unfold w_X4_shown at h
  refine vv_iload_n hC dX4_shown_0 rfl 1 rfl ?_
  refine vv_iconst hC dX4_shown_1 ic_0 ?_
  refine vv_aload_n hC dX4_shown_2 rfl 0 rfl ?_
  refine vv_getf hC hR hK fa4_77 0 lm_0 (fm_40 ad _ _ _) dX4_shown_3 ?_
  refine vv_sipush hC dX4_shown_6 sp_217 ?_
  refine vv_iald hC hR hK 21 lm_21 vin_217_221 dX4_shown_9 ?_
  refine vv_iconst hC dX4_shown_10 ic_1 ?_
  refine vv_isub hC dX4_shown_11 ?_
  refine vv_callSi hC hR hK hRo hRm [.int v1, .int 0, .int ((μ.1 21 217) - 1)] [] (met_X4_isIn (vL C) D ac ad Ex hLay hEx v1 0 ((μ.1 21 217) - 1) μ _ h) gw4_345 mf_X4_isIn rfl rfl rfl dX4_shown_12 (fun r2 μ1 h => ?_)
  refine vv_if_eq (tgt := 43) hC dX4_shown_15 rfl (fun c3 => ?_) (fun c3 => ?_)
  · replace h := h.1 c3
    refine vv_iconst hC dX4_shown_43 ic_m1 ?_
    exact vv_iret hC hM dX4_shown_44 h
  · replace h := h.2 c3
    refine vv_iload_n hC dX4_shown_18 rfl 2 rfl ?_
    refine vv_iconst hC dX4_shown_19 ic_0 ?_
    refine vv_iconst hC dX4_shown_20 ic_2 ?_
    refine vv_callSi hC hR hK hRo hRm [.int v2, .int 0, .int 2] [] (met_X4_isIn (vL C) D ac ad Ex hLay hEx v2 0 2 μ1 _ h) gw4_345 mf_X4_isIn rfl rfl rfl dX4_shown_21 (fun r5 μ4 h => ?_)
    refine vv_if_eq (tgt := 43) hC dX4_shown_24 rfl (fun c6 => ?_) (fun c6 => ?_)
    · replace h := h.1 c6
      refine vv_iconst hC dX4_shown_43 ic_m1 ?_
      exact vv_iret hC hM dX4_shown_44 h
    · replace h := h.2 c6
      refine vv_aload_n hC dX4_shown_27 rfl 0 rfl ?_
      refine vv_getf hC hR hK fa4_77 0 lm_0 (fm_40 ad _ _ _) dX4_shown_28 ?_
      refine vv_bipush hC dX4_shown_31 bp_96 ?_
      refine vv_iconst hC dX4_shown_33 ic_3 ?_
      refine vv_iload_n hC dX4_shown_34 rfl 1 rfl ?_
      refine vv_imul hC dX4_shown_35 ?_
      refine vv_iadd hC dX4_shown_36 ?_
      refine vv_iload_n hC dX4_shown_37 rfl 2 rfl ?_
      refine vv_iadd hC dX4_shown_38 ?_
      obtain ⟨hin, h⟩ := h
      refine vv_iald hC hR hK 21 lm_21 hin dX4_shown_39 ?_
      refine vv_goto (tgt := 44) hC dX4_shown_40 rfl ?_
      exact vv_iret hC hM dX4_shown_44 h
def w_X4_prints_90 (P30 : Int32 → Int32 → Int32 → Int32 → Int32 → Int32 → WS → Prop) (v1 : Int32) (v2 : Int32) (v3 : Int32) (v4 : Int32) (v5 : Int32) (v6 : Int32) (μ : WS) (Q : Int32 → WS → Prop) : Prop := P30 v1 v2 v3 v4 v5 (v6 + 1) μ
def w_X4_prints_30b (P30 : Int32 → Int32 → Int32 → Int32 → Int32 → Int32 → WS → Prop) (v1 : Int32) (v2 : Int32) (v3 : Int32) (v4 : Int32) (v5 : Int32) (v6 : Int32) (μ : WS) (Q : Int32 → WS → Prop) : Prop := ((μ.1 21 217 ≤ v6) → ((¬ v2 = 0) → ((¬ v2 = 1) → Q v5 μ) ∧ ((v2 = 1) → Q v4 μ)) ∧ ((v2 = 0) → Q v3 μ)) ∧ ((¬ μ.1 21 217 ≤ v6) → (vp_in (96 + (3 * v6)) 221 ∧ ((μ.1 21 (96 + (3 * v6)).toNatClampNeg = v1) → (vp_in ((96 + (3 * v6)) + 2) 221 ∧ (∀ x11 : Int32, x11 = μ.1 21 ((96 + (3 * v6)) + 2).toNatClampNeg → ((0 ≤ v4) → w_X4_prints_90 P30 v1 v2 (v3 + 1) v4 x11 v6 μ Q) ∧ ((¬ 0 ≤ v4) → w_X4_prints_90 P30 v1 v2 (v3 + 1) x11 x11 v6 μ Q)))) ∧ ((¬ μ.1 21 (96 + (3 * v6)).toNatClampNeg = v1) → w_X4_prints_90 P30 v1 v2 v3 v4 v5 v6 μ Q)))
def w_X4_prints_30 (v1 : Int32) (v2 : Int32) (v3 : Int32) (v4 : Int32) (v5 : Int32) (v6 : Int32) (μ : WS) (Q : Int32 → WS → Prop) : Prop := ∀ P30 : Int32 → Int32 → Int32 → Int32 → Int32 → Int32 → WS → Prop, (∀ (v1 : Int32) (v2 : Int32) (v3 : Int32) (v4 : Int32) (v5 : Int32) (v6 : Int32) (μ : WS), w_X4_prints_30b  P30 v1 v2 v3 v4 v5 v6 μ Q → P30 v1 v2 v3 v4 v5 v6 μ) → P30 v1 v2 v3 v4 v5 v6 μ
def w_X4_prints (v1 : Int32) (v2 : Int32) (μ : WS) (Q : Int32 → WS → Prop) : Prop := (w_X4_isRow v1 μ (fun r2 μ1 => ((r2 = 0) → Q (-1) μ1) ∧ ((¬ r2 = 0) → (w_X4_isIn v2 0 2 μ1 (fun r5 μ4 => ((¬ r5 = 0) → w_X4_prints_30 v1 v2 0 (-1) (-1) 0 μ4 Q) ∧ ((r5 = 0) → Q (-1) μ4))))))
abbrev rm_X4_prints : Room := { frames := 2, cells := 0, slots := 0, locals := 41 }
theorem mf_X4_prints : MFact yX4_prints 2 rm_X4_prints := ⟨by decide +kernel, rfl, rfl⟩
set_option maxHeartbeats 4000000 in
theorem met_X4_prints (l : Launch) (D : va_G) (ac : Nat → ClassId) (ad : Nat → Nat) (Ex : Heap → Prop) (hLay : LayOk ad knM) (hEx : ExOk ad knM Ex) (v1 : Int32) (v2 : Int32) (μ : WS) (Q : Int32 → WS → Prop) (h : w_X4_prints v1 v2 μ Q) : CMet l yX4_prints cX4_prints 7 (some .int) rm_X4_prints D ac ad knM Ex [.ref (ad 0), .int v1, .int v2] μ (qI Q) := by
  refine vv_met (lv := [(0, .ref (ad 0)), (1, .int v1), (2, .int v2)]) (by decide) hLay hEx (Nat.le_of_ble_eq_true rfl) rfl ⟨rfl, rfl⟩ (fun C hC hK hRm hLl hR hM => ?_)
  subst hLl
  have hRo : RoomOk (HPW D ac ad knM Ex (vS C)) (vR C) := HPW.room
  have L90 : ∀ (P30 : Int32 → Int32 → Int32 → Int32 → Int32 → Int32 → WS → Prop) (h30 : ∀ (v1 : Int32) (v2 : Int32) (v3 : Int32) (v4 : Int32) (v5 : Int32) (v6 : Int32) (μ : WS), P30 v1 v2 v3 v4 v5 v6 μ → VV C 7 (HPW D ac ad knM Ex (vS C)) (vQ C (QcW D ac ad knM (qI Q)) 0 0 (inLay ad knM)) (μ, ()) 30 [(0, .ref (ad 0)), (1, .int v1), (2, .int v2), (3, .int v3), (4, .int v4), (5, .int v5), (6, .int v6)] []) (v1 : Int32) (v2 : Int32) (v3 : Int32) (v4 : Int32) (v5 : Int32) (v6 : Int32) (μ : WS), w_X4_prints_90 P30 v1 v2 v3 v4 v5 v6 μ Q → VV C 7 (HPW D ac ad knM Ex (vS C)) (vQ C (QcW D ac ad knM (qI Q)) 0 0 (inLay ad knM)) (μ, ()) 90 [(0, .ref (ad 0)), (1, .int v1), (2, .int v2), (3, .int v3), (4, .int v4), (5, .int v5), (6, .int v6)] [] := by
    intro P30 h30 v1 v2 v3 v4 v5 v6 μ h
    unfold w_X4_prints_90 at h
    refine vv_iinc (pl := 6) (v := v6 + 1) (lv' := [(6, .int (v6 + 1)), (0, .ref (ad 0)), (1, .int v1), (2, .int v2), (3, .int v3), (4, .int v4), (5, .int v5)]) hC dX4_prints_90 rfl rfl (by decide) rfl ?_
    refine vv_goto (tgt := 30) hC dX4_prints_93 rfl ?_
    refine vv_lv [1, 2, 3, 4, 5, 6, 0] rfl ?_
    exact h30 _ _ _ _ _ _ _ h
  have L30 : ∀ (v1 : Int32) (v2 : Int32) (v3 : Int32) (v4 : Int32) (v5 : Int32) (v6 : Int32) (μ : WS), w_X4_prints_30  v1 v2 v3 v4 v5 v6 μ Q → VV C 7 (HPW D ac ad knM Ex (vS C)) (vQ C (QcW D ac ad knM (qI Q)) 0 0 (inLay ad knM)) (μ, ()) 30 [(0, .ref (ad 0)), (1, .int v1), (2, .int v2), (3, .int v3), (4, .int v4), (5, .int v5), (6, .int v6)] [] := by
    intro  v1 v2 v3 v4 v5 v6 μ h
    refine h (fun v1 v2 v3 v4 v5 v6 μ => VV C 7 (HPW D ac ad knM Ex (vS C)) (vQ C (QcW D ac ad knM (qI Q)) 0 0 (inLay ad knM)) (μ, ()) 30 [(0, .ref (ad 0)), (1, .int v1), (2, .int v2), (3, .int v3), (4, .int v4), (5, .int v5), (6, .int v6)] []) ?_
    clear h; intro v1 v2 v3 v4 v5 v6 μ h
    have h30 : ∀ (v1 : Int32) (v2 : Int32) (v3 : Int32) (v4 : Int32) (v5 : Int32) (v6 : Int32) (μ : WS), (fun v1 v2 v3 v4 v5 v6 (μ : WS) => VV C 7 (HPW D ac ad knM Ex (vS C)) (vQ C (QcW D ac ad knM (qI Q)) 0 0 (inLay ad knM)) (μ, ()) 30 [(0, .ref (ad 0)), (1, .int v1), (2, .int v2), (3, .int v3), (4, .int v4), (5, .int v5), (6, .int v6)] []) v1 v2 v3 v4 v5 v6 μ → VV C 7 (HPW D ac ad knM Ex (vS C)) (vQ C (QcW D ac ad knM (qI Q)) 0 0 (inLay ad knM)) (μ, ()) 30 [(0, .ref (ad 0)), (1, .int v1), (2, .int v2), (3, .int v3), (4, .int v4), (5, .int v5), (6, .int v6)] [] := fun _ _ _ _ _ _ _ h => h
    unfold w_X4_prints_30b at h
    refine vv_iload hC dX4_prints_30 6 rfl ?_
    refine vv_aload_n hC dX4_prints_32 rfl 0 rfl ?_
    refine vv_getf hC hR hK fa4_77 0 lm_0 (fm_40 ad _ _ _) dX4_prints_33 ?_
    refine vv_sipush hC dX4_prints_36 sp_217 ?_
    refine vv_iald hC hR hK 21 lm_21 vin_217_221 dX4_prints_39 ?_
    refine vv_icmp_ge (tgt := 96) hC dX4_prints_40 rfl (fun c7 => ?_) (fun c7 => ?_)
    · replace h := h.1 c7
      refine vv_iload_n hC dX4_prints_96 rfl 2 rfl ?_
      refine vv_if_ne (tgt := 104) hC dX4_prints_97 rfl (fun c8 => ?_) (fun c8 => ?_)
      · replace h := h.1 c8
        refine vv_iload_n hC dX4_prints_104 rfl 2 rfl ?_
        refine vv_iconst hC dX4_prints_105 ic_1 ?_
        refine vv_icmp_ne (tgt := 114) hC dX4_prints_106 rfl (fun c9 => ?_) (fun c9 => ?_)
        · replace h := h.1 c9
          refine vv_iload hC dX4_prints_114 5 rfl ?_
          exact vv_iret hC hM dX4_prints_116 h
        · replace h := h.2 c9
          refine vv_iload hC dX4_prints_109 4 rfl ?_
          refine vv_goto (tgt := 116) hC dX4_prints_111 rfl ?_
          exact vv_iret hC hM dX4_prints_116 h
      · replace h := h.2 c8
        refine vv_iload_n hC dX4_prints_100 rfl 3 rfl ?_
        refine vv_goto (tgt := 116) hC dX4_prints_101 rfl ?_
        exact vv_iret hC hM dX4_prints_116 h
    · replace h := h.2 c7
      refine vv_aload_n hC dX4_prints_43 rfl 0 rfl ?_
      refine vv_getf hC hR hK fa4_77 0 lm_0 (fm_40 ad _ _ _) dX4_prints_44 ?_
      refine vv_bipush hC dX4_prints_47 bp_96 ?_
      refine vv_iconst hC dX4_prints_49 ic_3 ?_
      refine vv_iload hC dX4_prints_50 6 rfl ?_
      refine vv_imul hC dX4_prints_52 ?_
      refine vv_iadd hC dX4_prints_53 ?_
      obtain ⟨hin, h⟩ := h
      refine vv_iald hC hR hK 21 lm_21 hin dX4_prints_54 ?_
      refine vv_iload_n hC dX4_prints_55 rfl 1 rfl ?_
      refine vv_icmp_eq (tgt := 62) hC dX4_prints_56 rfl (fun c10 => ?_) (fun c10 => ?_)
      · replace h := h.1 c10
        refine vv_iinc (pl := 3) (v := v3 + 1) (lv' := [(3, .int (v3 + 1)), (0, .ref (ad 0)), (1, .int v1), (2, .int v2), (4, .int v4), (5, .int v5), (6, .int v6)]) hC dX4_prints_62 rfl rfl (by decide) rfl ?_
        refine vv_aload_n hC dX4_prints_65 rfl 1 rfl ?_
        refine vv_getf hC hR hK fa4_77 0 lm_0 (fm_40 ad _ _ _) dX4_prints_66 ?_
        refine vv_bipush hC dX4_prints_69 bp_96 ?_
        refine vv_iconst hC dX4_prints_71 ic_3 ?_
        refine vv_iload hC dX4_prints_72 6 rfl ?_
        refine vv_imul hC dX4_prints_74 ?_
        refine vv_iadd hC dX4_prints_75 ?_
        refine vv_iconst hC dX4_prints_76 ic_2 ?_
        refine vv_iadd hC dX4_prints_77 ?_
        obtain ⟨hin, h⟩ := h
        refine vv_iald hC hR hK 21 lm_21 hin dX4_prints_78 ?_
        refine vv_topi (fun x11 ex11 => ?_)
        replace h := h x11 ex11
        refine vv_istore (lv' := [(5, .int x11), (3, .int (v3 + 1)), (0, .ref (ad 0)), (1, .int v1), (2, .int v2), (4, .int v4), (6, .int v6)]) hC dX4_prints_79 (by decide) rfl ?_
        refine vv_iload hC dX4_prints_81 5 rfl ?_
        refine vv_if_ge (tgt := 90) hC dX4_prints_83 rfl (fun c12 => ?_) (fun c12 => ?_)
        · replace h := h.1 c12
          refine vv_lv [2, 3, 4, 1, 5, 0, 6] rfl ?_
          exact L90 _ h30 _ _ _ _ _ _ _ h
        · replace h := h.2 c12
          refine vv_iload hC dX4_prints_86 0 rfl ?_
          refine vv_istore (lv' := [(4, .int x11), (5, .int x11), (3, .int (v3 + 1)), (0, .ref (ad 0)), (1, .int v1), (2, .int v2), (6, .int v6)]) hC dX4_prints_88 (by decide) rfl ?_
          refine vv_lv [3, 4, 5, 2, 0, 1, 6] rfl ?_
          exact L90 _ h30 _ _ _ _ _ _ _ h
      · replace h := h.2 c10
        refine vv_goto (tgt := 90) hC dX4_prints_59 rfl ?_
        exact L90 _ h30 _ _ _ _ _ _ _ h
  unfold w_X4_prints at h
  refine vv_aload_n hC dX4_prints_0 rfl 0 rfl ?_
  refine vv_iload_n hC dX4_prints_1 rfl 1 rfl ?_
  refine vv_callVi hC hR hK hRo hRm [.int v1] [] (met_X4_isRow (vL C) D ac ad Ex hLay hEx v1 μ _ h) gw4_358 mf_X4_isRow rfl lm_0 rfl rfl rfl rfl dX4_prints_2 (fun r2 μ1 h => ?_)
  refine vv_if_eq (tgt := 17) hC dX4_prints_5 rfl (fun c3 => ?_) (fun c3 => ?_)
  · replace h := h.1 c3
    refine vv_iconst hC dX4_prints_17 ic_m1 ?_
    exact vv_iret hC hM dX4_prints_18 h
  · replace h := h.2 c3
    refine vv_iload_n hC dX4_prints_8 rfl 2 rfl ?_
    refine vv_iconst hC dX4_prints_9 ic_0 ?_
    refine vv_iconst hC dX4_prints_10 ic_2 ?_
    refine vv_callSi hC hR hK hRo hRm [.int v2, .int 0, .int 2] [] (met_X4_isIn (vL C) D ac ad Ex hLay hEx v2 0 2 μ1 _ h) gw4_345 mf_X4_isIn rfl rfl rfl dX4_prints_11 (fun r5 μ4 h => ?_)
    refine vv_if_ne (tgt := 19) hC dX4_prints_14 rfl (fun c6 => ?_) (fun c6 => ?_)
    · replace h := h.1 c6
      refine vv_iconst hC dX4_prints_19 ic_0 ?_
      refine vv_istore_n (lv' := [(3, .int 0), (0, .ref (ad 0)), (1, .int v1), (2, .int v2)]) hC dX4_prints_20 rfl (by decide) rfl ?_
      refine vv_iconst hC dX4_prints_21 ic_m1 ?_
      refine vv_istore (lv' := [(4, .int (-1)), (3, .int 0), (0, .ref (ad 0)), (1, .int v1), (2, .int v2)]) hC dX4_prints_22 (by decide) rfl ?_
      refine vv_iconst hC dX4_prints_24 ic_m1 ?_
      refine vv_istore (lv' := [(5, .int (-1)), (4, .int (-1)), (3, .int 0), (0, .ref (ad 0)), (1, .int v1), (2, .int v2)]) hC dX4_prints_25 (by decide) rfl ?_
      refine vv_iconst hC dX4_prints_27 ic_0 ?_
      refine vv_istore (lv' := [(6, .int 0), (5, .int (-1)), (4, .int (-1)), (3, .int 0), (0, .ref (ad 0)), (1, .int v1), (2, .int v2)]) hC dX4_prints_28 (by decide) rfl ?_
      refine vv_lv [4, 5, 6, 3, 2, 1, 0] rfl ?_
      exact L30  _ _ _ _ _ _ _ h
    · replace h := h.2 c6
      refine vv_iconst hC dX4_prints_17 ic_m1 ?_
      exact vv_iret hC hM dX4_prints_18 h
def w_X4_keepAct_52b (P52 : Int32 → WS → Prop) (v1 : Int32) (μ : WS) (Q : WS → Prop) : Prop := ((221 ≤ v1) → (∀ μ6 : WS, μ6 = wset μ 0 42 ((μ.1 0 42) + 1) → (∀ μ7 : WS, μ7 = wset μ6 0 43 0 → Q μ7))) ∧ ((¬ 221 ≤ v1) → (vp_in v1 221 ∧ (vp_in ((221 * (μ.1 0 42)) + v1) 9061 ∧ (∀ μ8 : WS, μ8 = wset μ 22 ((221 * (μ.1 0 42)) + v1).toNatClampNeg (μ.1 21 v1.toNatClampNeg) → P52 (v1 + 1) μ8))))
def w_X4_keepAct_52 (v1 : Int32) (μ : WS) (Q : WS → Prop) : Prop := ∀ P52 : Int32 → WS → Prop, (∀ (v1 : Int32) (μ : WS), w_X4_keepAct_52b  P52 v1 μ Q → P52 v1 μ) → P52 v1 μ
def w_X4_keepAct_50 (μ : WS) (Q : WS → Prop) : Prop := w_X4_keepAct_52 0 μ Q
def w_X4_keepAct_11b (P11 : Int32 → WS → Prop) (v1 : Int32) (μ : WS) (Q : WS → Prop) : Prop := ((8840 ≤ v1) → (∀ μ3 : WS, μ3 = wset μ 0 42 ((μ.1 0 42) - 1) → w_X4_keepAct_50 μ3 Q)) ∧ ((¬ 8840 ≤ v1) → (vp_in (v1 + 221) 9061 ∧ (vp_in v1 9061 ∧ (∀ μ4 : WS, μ4 = wset μ 22 v1.toNatClampNeg (μ.1 22 (v1 + 221).toNatClampNeg) → P11 (v1 + 1) μ4))))
def w_X4_keepAct_11 (v1 : Int32) (μ : WS) (Q : WS → Prop) : Prop := ∀ P11 : Int32 → WS → Prop, (∀ (v1 : Int32) (μ : WS), w_X4_keepAct_11b  P11 v1 μ Q → P11 v1 μ) → P11 v1 μ
def w_X4_keepAct (μ : WS) (Q : WS → Prop) : Prop := ((¬ μ.1 0 42 = 40) → w_X4_keepAct_50 μ Q) ∧ ((μ.1 0 42 = 40) → w_X4_keepAct_11 0 μ Q)
abbrev rm_X4_keepAct : Room := { frames := 0, cells := 0, slots := 0, locals := 0 }
theorem mf_X4_keepAct : MFact yX4_keepAct 0 rm_X4_keepAct := ⟨by decide +kernel, rfl, rfl⟩
set_option maxHeartbeats 4000000 in
theorem met_X4_keepAct (l : Launch) (D : va_G) (ac : Nat → ClassId) (ad : Nat → Nat) (Ex : Heap → Prop) (hLay : LayOk ad knM) (hEx : ExOk ad knM Ex) (μ : WS) (Q : WS → Prop) (h : w_X4_keepAct  μ Q) : CMet l yX4_keepAct cX4_keepAct 2 none rm_X4_keepAct D ac ad knM Ex [.ref (ad 0)] μ (qV Q) := by
  refine vv_met (lv := [(0, .ref (ad 0))]) (by decide) hLay hEx (Nat.le_of_ble_eq_true rfl) rfl ⟨rfl, rfl⟩ (fun C hC hK hRm hLl hR hM => ?_)
  subst hLl
  have hRo : RoomOk (HPW D ac ad knM Ex (vS C)) (vR C) := HPW.room
  have L52 : ∀ (v1 : Int32) (μ : WS), w_X4_keepAct_52  v1 μ Q → VV C 2 (HPW D ac ad knM Ex (vS C)) (vQ C (QcW D ac ad knM (qV Q)) 0 0 (inLay ad knM)) (μ, ()) 52 [(0, .ref (ad 0)), (1, .int v1)] [] := by
    intro  v1 μ h
    refine h (fun v1 μ => VV C 2 (HPW D ac ad knM Ex (vS C)) (vQ C (QcW D ac ad knM (qV Q)) 0 0 (inLay ad knM)) (μ, ()) 52 [(0, .ref (ad 0)), (1, .int v1)] []) ?_
    clear h; intro v1 μ h
    have h52 : ∀ (v1 : Int32) (μ : WS), (fun v1 (μ : WS) => VV C 2 (HPW D ac ad knM Ex (vS C)) (vQ C (QcW D ac ad knM (qV Q)) 0 0 (inLay ad knM)) (μ, ()) 52 [(0, .ref (ad 0)), (1, .int v1)] []) v1 μ → VV C 2 (HPW D ac ad knM Ex (vS C)) (vQ C (QcW D ac ad knM (qV Q)) 0 0 (inLay ad knM)) (μ, ()) 52 [(0, .ref (ad 0)), (1, .int v1)] [] := fun _ _ h => h
    unfold w_X4_keepAct_52b at h
    refine vv_iload_n hC dX4_keepAct_52 rfl 1 rfl ?_
    refine vv_sipush hC dX4_keepAct_53 sp_221 ?_
    refine vv_icmp_ge (tgt := 86) hC dX4_keepAct_56 rfl (fun c5 => ?_) (fun c5 => ?_)
    · replace h := h.1 c5
      refine vv_aload_n hC dX4_keepAct_86 rfl 0 rfl ?_
      refine vv_dup hC dX4_keepAct_87 rfl ?_
      refine vv_getf hC hR hK fa4_371 0 lm_0 (fm_42 ad _ _ _) dX4_keepAct_88 ?_
      refine vv_iconst hC dX4_keepAct_91 ic_1 ?_
      refine vv_iadd hC dX4_keepAct_92 ?_
      refine vv_puti hC hR hK fa4_371 0 lm_0 fn_42 rfl rfl dX4_keepAct_93 ?_
      refine vv_st (fun y e => ?_)
      obtain ⟨μ6, _⟩ := y
      have eμ6 := congrArg Prod.fst e
      clear e
      replace h := h μ6 eμ6
      refine vv_aload_n hC dX4_keepAct_96 rfl 0 rfl ?_
      refine vv_iconst hC dX4_keepAct_97 ic_0 ?_
      refine vv_puti hC hR hK fa4_374 0 lm_0 fn_43 rfl rfl dX4_keepAct_98 ?_
      refine vv_st (fun y e => ?_)
      obtain ⟨μ7, _⟩ := y
      have eμ7 := congrArg Prod.fst e
      clear e
      replace h := h μ7 eμ7
      exact vv_vret hC hM dX4_keepAct_101 h
    · replace h := h.2 c5
      refine vv_aload_n hC dX4_keepAct_59 rfl 0 rfl ?_
      refine vv_getf hC hR hK fa4_80 0 lm_0 (fm_41 ad _ _ _) dX4_keepAct_60 ?_
      refine vv_sipush hC dX4_keepAct_63 sp_221 ?_
      refine vv_aload_n hC dX4_keepAct_66 rfl 0 rfl ?_
      refine vv_getf hC hR hK fa4_371 0 lm_0 (fm_42 ad _ _ _) dX4_keepAct_67 ?_
      refine vv_imul hC dX4_keepAct_70 ?_
      refine vv_iload_n hC dX4_keepAct_71 rfl 1 rfl ?_
      refine vv_iadd hC dX4_keepAct_72 ?_
      refine vv_aload_n hC dX4_keepAct_73 rfl 0 rfl ?_
      refine vv_getf hC hR hK fa4_77 0 lm_0 (fm_40 ad _ _ _) dX4_keepAct_74 ?_
      refine vv_iload_n hC dX4_keepAct_77 rfl 1 rfl ?_
      obtain ⟨hin, h⟩ := h
      refine vv_iald hC hR hK 21 lm_21 hin dX4_keepAct_78 ?_
      obtain ⟨hin, h⟩ := h
      refine vv_iast hC hR hK 22 lm_22 hin dX4_keepAct_79 ?_
      refine vv_st (fun y e => ?_)
      obtain ⟨μ8, _⟩ := y
      have eμ8 := congrArg Prod.fst e
      clear e
      replace h := h μ8 eμ8
      refine vv_iinc (pl := 1) (v := v1 + 1) (lv' := [(1, .int (v1 + 1)), (0, .ref (ad 0))]) hC dX4_keepAct_80 rfl rfl (by decide) rfl ?_
      refine vv_goto (tgt := 52) hC dX4_keepAct_83 rfl ?_
      refine vv_lv [1, 0] rfl ?_
      exact h52 _ _ h
  have L50 : ∀ (μ : WS), w_X4_keepAct_50   μ Q → VV C 2 (HPW D ac ad knM Ex (vS C)) (vQ C (QcW D ac ad knM (qV Q)) 0 0 (inLay ad knM)) (μ, ()) 50 [(0, .ref (ad 0))] [] := by
    intro   μ h
    unfold w_X4_keepAct_50 at h
    refine vv_iconst hC dX4_keepAct_50 ic_0 ?_
    refine vv_istore_n (lv' := [(1, .int 0), (0, .ref (ad 0))]) hC dX4_keepAct_51 rfl (by decide) rfl ?_
    refine vv_lv [1, 0] rfl ?_
    exact L52  _ _ h
  have L11 : ∀ (v1 : Int32) (μ : WS), w_X4_keepAct_11  v1 μ Q → VV C 2 (HPW D ac ad knM Ex (vS C)) (vQ C (QcW D ac ad knM (qV Q)) 0 0 (inLay ad knM)) (μ, ()) 11 [(0, .ref (ad 0)), (1, .int v1)] [] := by
    intro  v1 μ h
    refine h (fun v1 μ => VV C 2 (HPW D ac ad knM Ex (vS C)) (vQ C (QcW D ac ad knM (qV Q)) 0 0 (inLay ad knM)) (μ, ()) 11 [(0, .ref (ad 0)), (1, .int v1)] []) ?_
    clear h; intro v1 μ h
    have h11 : ∀ (v1 : Int32) (μ : WS), (fun v1 (μ : WS) => VV C 2 (HPW D ac ad knM Ex (vS C)) (vQ C (QcW D ac ad knM (qV Q)) 0 0 (inLay ad knM)) (μ, ()) 11 [(0, .ref (ad 0)), (1, .int v1)] []) v1 μ → VV C 2 (HPW D ac ad knM Ex (vS C)) (vQ C (QcW D ac ad knM (qV Q)) 0 0 (inLay ad knM)) (μ, ()) 11 [(0, .ref (ad 0)), (1, .int v1)] [] := fun _ _ h => h
    unfold w_X4_keepAct_11b at h
    refine vv_iload_n hC dX4_keepAct_11 rfl 1 rfl ?_
    refine vv_sipush hC dX4_keepAct_12 sp_8840 ?_
    refine vv_icmp_ge (tgt := 40) hC dX4_keepAct_15 rfl (fun c2 => ?_) (fun c2 => ?_)
    · replace h := h.1 c2
      refine vv_aload_n hC dX4_keepAct_40 rfl 0 rfl ?_
      refine vv_dup hC dX4_keepAct_41 rfl ?_
      refine vv_getf hC hR hK fa4_371 0 lm_0 (fm_42 ad _ _ _) dX4_keepAct_42 ?_
      refine vv_iconst hC dX4_keepAct_45 ic_1 ?_
      refine vv_isub hC dX4_keepAct_46 ?_
      refine vv_puti hC hR hK fa4_371 0 lm_0 fn_42 rfl rfl dX4_keepAct_47 ?_
      refine vv_st (fun y e => ?_)
      obtain ⟨μ3, _⟩ := y
      have eμ3 := congrArg Prod.fst e
      clear e
      replace h := h μ3 eμ3
      refine vv_lv [0] rfl ?_
      exact L50  _ h
    · replace h := h.2 c2
      refine vv_aload_n hC dX4_keepAct_18 rfl 0 rfl ?_
      refine vv_getf hC hR hK fa4_80 0 lm_0 (fm_41 ad _ _ _) dX4_keepAct_19 ?_
      refine vv_iload_n hC dX4_keepAct_22 rfl 1 rfl ?_
      refine vv_aload_n hC dX4_keepAct_23 rfl 0 rfl ?_
      refine vv_getf hC hR hK fa4_80 0 lm_0 (fm_41 ad _ _ _) dX4_keepAct_24 ?_
      refine vv_iload_n hC dX4_keepAct_27 rfl 1 rfl ?_
      refine vv_sipush hC dX4_keepAct_28 sp_221 ?_
      refine vv_iadd hC dX4_keepAct_31 ?_
      obtain ⟨hin, h⟩ := h
      refine vv_iald hC hR hK 22 lm_22 hin dX4_keepAct_32 ?_
      obtain ⟨hin, h⟩ := h
      refine vv_iast hC hR hK 22 lm_22 hin dX4_keepAct_33 ?_
      refine vv_st (fun y e => ?_)
      obtain ⟨μ4, _⟩ := y
      have eμ4 := congrArg Prod.fst e
      clear e
      replace h := h μ4 eμ4
      refine vv_iinc (pl := 1) (v := v1 + 1) (lv' := [(1, .int (v1 + 1)), (0, .ref (ad 0))]) hC dX4_keepAct_34 rfl rfl (by decide) rfl ?_
      refine vv_goto (tgt := 11) hC dX4_keepAct_37 rfl ?_
      refine vv_lv [1, 0] rfl ?_
      exact h11 _ _ h
  unfold w_X4_keepAct at h
  refine vv_aload_n hC dX4_keepAct_0 rfl 0 rfl ?_
  refine vv_getf hC hR hK fa4_371 0 lm_0 (fm_42 ad _ _ _) dX4_keepAct_1 ?_
  refine vv_bipush hC dX4_keepAct_4 bp_40 ?_
  refine vv_icmp_ne (tgt := 50) hC dX4_keepAct_6 rfl (fun c1 => ?_) (fun c1 => ?_)
  · replace h := h.1 c1
    exact L50  _ h
  · replace h := h.2 c1
    refine vv_iconst hC dX4_keepAct_9 ic_0 ?_
    refine vv_istore_n (lv' := [(1, .int 0), (0, .ref (ad 0))]) hC dX4_keepAct_10 rfl (by decide) rfl ?_
    refine vv_lv [1, 0] rfl ?_
    exact L11  _ _ h
def w_X4_rowOf (v1 : Int32) (μ : WS) (Q : Int32 → WS → Prop) : Prop := (vp_in (4 * v1) 221 ∧ Q (μ.1 21 (4 * v1).toNatClampNeg) μ)
abbrev rm_X4_rowOf : Room := { frames := 0, cells := 0, slots := 0, locals := 0 }
theorem mf_X4_rowOf : MFact yX4_rowOf 1 rm_X4_rowOf := ⟨by decide +kernel, rfl, rfl⟩
set_option maxHeartbeats 4000000 in
theorem met_X4_rowOf (l : Launch) (D : va_G) (ac : Nat → ClassId) (ad : Nat → Nat) (Ex : Heap → Prop) (hLay : LayOk ad knM) (hEx : ExOk ad knM Ex) (v1 : Int32) (μ : WS) (Q : Int32 → WS → Prop) (h : w_X4_rowOf v1 μ Q) : CMet l yX4_rowOf cX4_rowOf 2 (some .int) rm_X4_rowOf D ac ad knM Ex [.ref (ad 0), .int v1] μ (qI Q) := by
  refine vv_met (lv := [(0, .ref (ad 0)), (1, .int v1)]) (by decide) hLay hEx (Nat.le_of_ble_eq_true rfl) rfl ⟨rfl, rfl⟩ (fun C hC hK hRm hLl hR hM => ?_)
  subst hLl
  have hRo : RoomOk (HPW D ac ad knM Ex (vS C)) (vR C) := HPW.room
  unfold w_X4_rowOf at h
  refine vv_aload_n hC dX4_rowOf_0 rfl 0 rfl ?_
  refine vv_getf hC hR hK fa4_77 0 lm_0 (fm_40 ad _ _ _) dX4_rowOf_1 ?_
  refine vv_iconst hC dX4_rowOf_4 ic_4 ?_
  refine vv_iload_n hC dX4_rowOf_5 rfl 1 rfl ?_
  refine vv_imul hC dX4_rowOf_6 ?_
  obtain ⟨hin, h⟩ := h
  refine vv_iald hC hR hK 21 lm_21 hin dX4_rowOf_7 ?_
  exact vv_iret hC hM dX4_rowOf_8 h
def w_X4_cast (v1 : Int32) (v2 : Int32) (v3 : Int32) (μ : WS) (Q : Int32 → WS → Prop) : Prop := (w_X4_isSeal v1 μ (fun r2 μ1 => ((r2 = 0) → Q (-1) μ1) ∧ ((¬ r2 = 0) → (w_X4_isHand v2 μ1 (fun r5 μ4 => ((r5 = 0) → Q (-1) μ4) ∧ ((¬ r5 = 0) → (w_X4_isHeat v3 μ4 (fun r8 μ7 => ((r8 = 0) → Q (-1) μ7) ∧ ((¬ r8 = 0) → ((μ7.1 21 216 = 24) → Q (-1) μ7) ∧ ((¬ μ7.1 21 216 = 24) → ((1 + v3 ≤ μ7.1 21 218) → (w_X4_keepAct μ7 (fun μ12 => (∀ x14 : Int32, x14 = μ12.1 21 216 → (∀ μ15 : WS, μ15 = wset μ12 21 220 (((137 * (μ12.1 21 220)) + 71) - ((137 * (μ12.1 21 220)) + 71) / 1000 * 1000) → (w_X4_rowOf v1 μ15 (fun r17 μ16 => (w_X4_castOf r17 v2 v3 ((μ16.1 21 220) - (μ16.1 21 220) / 100 * 100) μ16 (fun r19 μ18 => (vp_in (4 * x14) 221 ∧ (∀ μ20 : WS, μ20 = wset μ18 21 (4 * x14).toNatClampNeg r19 → (vp_in ((4 * x14) + 1) 221 ∧ (∀ μ21 : WS, μ21 = wset μ20 21 ((4 * x14) + 1).toNatClampNeg v1 → (vp_in ((4 * x14) + 2) 221 ∧ (∀ μ22 : WS, μ22 = wset μ21 21 ((4 * x14) + 2).toNatClampNeg v2 → (vp_in ((4 * x14) + 3) 221 ∧ (∀ μ23 : WS, μ23 = wset μ22 21 ((4 * x14) + 3).toNatClampNeg (μ22.1 21 219) → (∀ μ24 : WS, μ24 = wset μ23 21 216 ((μ23.1 21 216) + 1) → (∀ μ25 : WS, μ25 = wset μ24 21 218 ((μ24.1 21 218) - (1 + v3)) → Q x14 μ25))))))))))))))))))) ∧ ((¬ 1 + v3 ≤ μ7.1 21 218) → Q (-1) μ7)))))))))))
abbrev rm_X4_cast : Room := { frames := 3, cells := 0, slots := 0, locals := 74 }
theorem mf_X4_cast : MFact yX4_cast 3 rm_X4_cast := ⟨by decide +kernel, rfl, rfl⟩
set_option maxHeartbeats 4000000 in
theorem met_X4_cast (l : Launch) (D : va_G) (ac : Nat → ClassId) (ad : Nat → Nat) (Ex : Heap → Prop) (hLay : LayOk ad knM) (hEx : ExOk ad knM Ex) (v1 : Int32) (v2 : Int32) (v3 : Int32) (μ : WS) (Q : Int32 → WS → Prop) (h : w_X4_cast v1 v2 v3 μ Q) : CMet l yX4_cast cX4_cast 5 (some .int) rm_X4_cast D ac ad knM Ex [.ref (ad 0), .int v1, .int v2, .int v3] μ (qI Q) := by
  refine vv_met (lv := [(0, .ref (ad 0)), (1, .int v1), (2, .int v2), (3, .int v3)]) (by decide) hLay hEx (Nat.le_of_ble_eq_true rfl) rfl ⟨rfl, rfl⟩ (fun C hC hK hRm hLl hR hM => ?_)
  subst hLl
  have hRo : RoomOk (HPW D ac ad knM Ex (vS C)) (vR C) := HPW.room
  unfold w_X4_cast at h
  refine vv_aload_n hC dX4_cast_0 rfl 0 rfl ?_
  refine vv_iload_n hC dX4_cast_1 rfl 1 rfl ?_
  refine vv_callVi hC hR hK hRo hRm [.int v1] [] (met_X4_isSeal (vL C) D ac ad Ex hLay hEx v1 μ _ h) gw4_383 mf_X4_isSeal rfl lm_0 rfl rfl rfl rfl dX4_cast_2 (fun r2 μ1 h => ?_)
  refine vv_if_eq (tgt := 50) hC dX4_cast_5 rfl (fun c3 => ?_) (fun c3 => ?_)
  · replace h := h.1 c3
    refine vv_iconst hC dX4_cast_50 ic_m1 ?_
    exact vv_iret hC hM dX4_cast_51 h
  · replace h := h.2 c3
    refine vv_aload_n hC dX4_cast_8 rfl 0 rfl ?_
    refine vv_iload_n hC dX4_cast_9 rfl 2 rfl ?_
    refine vv_callVi hC hR hK hRo hRm [.int v2] [] (met_X4_isHand (vL C) D ac ad Ex hLay hEx v2 μ1 _ h) gw4_361 mf_X4_isHand rfl lm_0 rfl rfl rfl rfl dX4_cast_10 (fun r5 μ4 h => ?_)
    refine vv_if_eq (tgt := 50) hC dX4_cast_13 rfl (fun c6 => ?_) (fun c6 => ?_)
    · replace h := h.1 c6
      refine vv_iconst hC dX4_cast_50 ic_m1 ?_
      exact vv_iret hC hM dX4_cast_51 h
    · replace h := h.2 c6
      refine vv_iload_n hC dX4_cast_16 rfl 3 rfl ?_
      refine vv_callSi hC hR hK hRo hRm [.int v3] [] (met_X4_isHeat (vL C) D ac ad Ex hLay hEx v3 μ4 _ h) gw4_364 mf_X4_isHeat rfl rfl rfl dX4_cast_17 (fun r8 μ7 h => ?_)
      refine vv_if_eq (tgt := 50) hC dX4_cast_20 rfl (fun c9 => ?_) (fun c9 => ?_)
      · replace h := h.1 c9
        refine vv_iconst hC dX4_cast_50 ic_m1 ?_
        exact vv_iret hC hM dX4_cast_51 h
      · replace h := h.2 c9
        refine vv_aload_n hC dX4_cast_23 rfl 0 rfl ?_
        refine vv_getf hC hR hK fa4_77 0 lm_0 (fm_40 ad _ _ _) dX4_cast_24 ?_
        refine vv_sipush hC dX4_cast_27 sp_216 ?_
        refine vv_iald hC hR hK 21 lm_21 vin_216_221 dX4_cast_30 ?_
        refine vv_bipush hC dX4_cast_31 bp_24 ?_
        refine vv_icmp_eq (tgt := 50) hC dX4_cast_33 rfl (fun c10 => ?_) (fun c10 => ?_)
        · replace h := h.1 c10
          refine vv_iconst hC dX4_cast_50 ic_m1 ?_
          exact vv_iret hC hM dX4_cast_51 h
        · replace h := h.2 c10
          refine vv_aload_n hC dX4_cast_36 rfl 0 rfl ?_
          refine vv_getf hC hR hK fa4_77 0 lm_0 (fm_40 ad _ _ _) dX4_cast_37 ?_
          refine vv_sipush hC dX4_cast_40 sp_218 ?_
          refine vv_iald hC hR hK 21 lm_21 vin_218_221 dX4_cast_43 ?_
          refine vv_iconst hC dX4_cast_44 ic_1 ?_
          refine vv_iload_n hC dX4_cast_45 rfl 3 rfl ?_
          refine vv_iadd hC dX4_cast_46 ?_
          refine vv_icmp_ge (tgt := 52) hC dX4_cast_47 rfl (fun c11 => ?_) (fun c11 => ?_)
          · replace h := h.1 c11
            refine vv_aload_n hC dX4_cast_52 rfl 0 rfl ?_
            refine vv_callVv hC hR hK hRo hRm [] [] (met_X4_keepAct (vL C) D ac ad Ex hLay hEx  μ7 _ h) gw4_389 mf_X4_keepAct rfl lm_0 rfl rfl rfl rfl dX4_cast_53 (fun μ12 h => ?_)
            refine vv_aload_n hC dX4_cast_56 rfl 0 rfl ?_
            refine vv_getf hC hR hK fa4_77 0 lm_0 (fm_40 ad _ _ _) dX4_cast_57 ?_
            refine vv_sipush hC dX4_cast_60 sp_216 ?_
            refine vv_iald hC hR hK 21 lm_21 vin_216_221 dX4_cast_63 ?_
            refine vv_topi (fun x14 ex14 => ?_)
            replace h := h x14 ex14
            refine vv_istore (lv' := [(4, .int x14), (0, .ref (ad 0)), (1, .int v1), (2, .int v2), (3, .int v3)]) hC dX4_cast_64 (by decide) rfl ?_
            refine vv_aload_n hC dX4_cast_66 rfl 1 rfl ?_
            refine vv_getf hC hR hK fa4_77 0 lm_0 (fm_40 ad _ _ _) dX4_cast_67 ?_
            refine vv_sipush hC dX4_cast_70 sp_220 ?_
            refine vv_sipush hC dX4_cast_73 sp_137 ?_
            refine vv_aload_n hC dX4_cast_76 rfl 1 rfl ?_
            refine vv_getf hC hR hK fa4_77 0 lm_0 (fm_40 ad _ _ _) dX4_cast_77 ?_
            refine vv_sipush hC dX4_cast_80 sp_220 ?_
            refine vv_iald hC hR hK 21 lm_21 vin_220_221 dX4_cast_83 ?_
            refine vv_imul hC dX4_cast_84 ?_
            refine vv_bipush hC dX4_cast_85 bp_71 ?_
            refine vv_iadd hC dX4_cast_87 ?_
            refine vv_sipush hC dX4_cast_88 sp_1000 ?_
            refine vv_irem hC dX4_cast_91 (by decide) ?_
            refine vv_iast hC hR hK 21 lm_21 vin_220_221 dX4_cast_92 ?_
            refine vv_st (fun y e => ?_)
            obtain ⟨μ15, _⟩ := y
            have eμ15 := congrArg Prod.fst e
            clear e
            replace h := h μ15 eμ15
            refine vv_aload_n hC dX4_cast_93 rfl 1 rfl ?_
            refine vv_getf hC hR hK fa4_77 0 lm_0 (fm_40 ad _ _ _) dX4_cast_94 ?_
            refine vv_iconst hC dX4_cast_97 ic_4 ?_
            refine vv_iload hC dX4_cast_98 0 rfl ?_
            refine vv_imul hC dX4_cast_100 ?_
            refine vv_aload_n hC dX4_cast_101 rfl 1 rfl ?_
            refine vv_aload_n hC dX4_cast_102 rfl 1 rfl ?_
            refine vv_iload_n hC dX4_cast_103 rfl 2 rfl ?_
            refine vv_callVi hC hR hK hRo hRm [.int v1] [.ref (ad 0), .int (4 * x14), .ref (ad 21)] (met_X4_rowOf (vL C) D ac ad Ex hLay hEx v1 μ15 _ h) gw4_392 mf_X4_rowOf rfl lm_0 rfl rfl rfl rfl dX4_cast_104 (fun r17 μ16 h => ?_)
            refine vv_iload_n hC dX4_cast_107 rfl 3 rfl ?_
            refine vv_iload_n hC dX4_cast_108 rfl 4 rfl ?_
            refine vv_aload_n hC dX4_cast_109 rfl 1 rfl ?_
            refine vv_getf hC hR hK fa4_77 0 lm_0 (fm_40 ad _ _ _) dX4_cast_110 ?_
            refine vv_sipush hC dX4_cast_113 sp_220 ?_
            refine vv_iald hC hR hK 21 lm_21 vin_220_221 dX4_cast_116 ?_
            refine vv_bipush hC dX4_cast_117 bp_100 ?_
            refine vv_irem hC dX4_cast_119 (by decide) ?_
            refine vv_callVi hC hR hK hRo hRm [.int r17, .int v2, .int v3, .int ((μ16.1 21 220) - (μ16.1 21 220) / 100 * 100)] [.int (4 * x14), .ref (ad 21)] (met_X4_castOf (vL C) D ac ad Ex hLay hEx r17 v2 v3 ((μ16.1 21 220) - (μ16.1 21 220) / 100 * 100) μ16 _ h) gw4_367 mf_X4_castOf rfl lm_0 rfl rfl rfl rfl dX4_cast_120 (fun r19 μ18 h => ?_)
            obtain ⟨hin, h⟩ := h
            refine vv_iast hC hR hK 21 lm_21 hin dX4_cast_123 ?_
            refine vv_st (fun y e => ?_)
            obtain ⟨μ20, _⟩ := y
            have eμ20 := congrArg Prod.fst e
            clear e
            replace h := h μ20 eμ20
            refine vv_aload_n hC dX4_cast_124 rfl 1 rfl ?_
            refine vv_getf hC hR hK fa4_77 0 lm_0 (fm_40 ad _ _ _) dX4_cast_125 ?_
            refine vv_iconst hC dX4_cast_128 ic_4 ?_
            refine vv_iload hC dX4_cast_129 0 rfl ?_
            refine vv_imul hC dX4_cast_131 ?_
            refine vv_iconst hC dX4_cast_132 ic_1 ?_
            refine vv_iadd hC dX4_cast_133 ?_
            refine vv_iload_n hC dX4_cast_134 rfl 2 rfl ?_
            obtain ⟨hin, h⟩ := h
            refine vv_iast hC hR hK 21 lm_21 hin dX4_cast_135 ?_
            refine vv_st (fun y e => ?_)
            obtain ⟨μ21, _⟩ := y
            have eμ21 := congrArg Prod.fst e
            clear e
            replace h := h μ21 eμ21
            refine vv_aload_n hC dX4_cast_136 rfl 1 rfl ?_
            refine vv_getf hC hR hK fa4_77 0 lm_0 (fm_40 ad _ _ _) dX4_cast_137 ?_
            refine vv_iconst hC dX4_cast_140 ic_4 ?_
            refine vv_iload hC dX4_cast_141 0 rfl ?_
            refine vv_imul hC dX4_cast_143 ?_
            refine vv_iconst hC dX4_cast_144 ic_2 ?_
            refine vv_iadd hC dX4_cast_145 ?_
            refine vv_iload_n hC dX4_cast_146 rfl 3 rfl ?_
            obtain ⟨hin, h⟩ := h
            refine vv_iast hC hR hK 21 lm_21 hin dX4_cast_147 ?_
            refine vv_st (fun y e => ?_)
            obtain ⟨μ22, _⟩ := y
            have eμ22 := congrArg Prod.fst e
            clear e
            replace h := h μ22 eμ22
            refine vv_aload_n hC dX4_cast_148 rfl 1 rfl ?_
            refine vv_getf hC hR hK fa4_77 0 lm_0 (fm_40 ad _ _ _) dX4_cast_149 ?_
            refine vv_iconst hC dX4_cast_152 ic_4 ?_
            refine vv_iload hC dX4_cast_153 0 rfl ?_
            refine vv_imul hC dX4_cast_155 ?_
            refine vv_iconst hC dX4_cast_156 ic_3 ?_
            refine vv_iadd hC dX4_cast_157 ?_
            refine vv_aload_n hC dX4_cast_158 rfl 1 rfl ?_
            refine vv_getf hC hR hK fa4_77 0 lm_0 (fm_40 ad _ _ _) dX4_cast_159 ?_
            refine vv_sipush hC dX4_cast_162 sp_219 ?_
            refine vv_iald hC hR hK 21 lm_21 vin_219_221 dX4_cast_165 ?_
            obtain ⟨hin, h⟩ := h
            refine vv_iast hC hR hK 21 lm_21 hin dX4_cast_166 ?_
            refine vv_st (fun y e => ?_)
            obtain ⟨μ23, _⟩ := y
            have eμ23 := congrArg Prod.fst e
            clear e
            replace h := h μ23 eμ23
            refine vv_aload_n hC dX4_cast_167 rfl 1 rfl ?_
            refine vv_getf hC hR hK fa4_77 0 lm_0 (fm_40 ad _ _ _) dX4_cast_168 ?_
            refine vv_sipush hC dX4_cast_171 sp_216 ?_
            refine vv_dup2 hC dX4_cast_174 rfl rfl ?_
            refine vv_iald hC hR hK 21 lm_21 vin_216_221 dX4_cast_175 ?_
            refine vv_iconst hC dX4_cast_176 ic_1 ?_
            refine vv_iadd hC dX4_cast_177 ?_
            refine vv_iast hC hR hK 21 lm_21 vin_216_221 dX4_cast_178 ?_
            refine vv_st (fun y e => ?_)
            obtain ⟨μ24, _⟩ := y
            have eμ24 := congrArg Prod.fst e
            clear e
            replace h := h μ24 eμ24
            refine vv_aload_n hC dX4_cast_179 rfl 1 rfl ?_
            refine vv_getf hC hR hK fa4_77 0 lm_0 (fm_40 ad _ _ _) dX4_cast_180 ?_
            refine vv_sipush hC dX4_cast_183 sp_218 ?_
            refine vv_dup2 hC dX4_cast_186 rfl rfl ?_
            refine vv_iald hC hR hK 21 lm_21 vin_218_221 dX4_cast_187 ?_
            refine vv_iconst hC dX4_cast_188 ic_1 ?_
            refine vv_iload_n hC dX4_cast_189 rfl 4 rfl ?_
            refine vv_iadd hC dX4_cast_190 ?_
            refine vv_isub hC dX4_cast_191 ?_
            refine vv_iast hC hR hK 21 lm_21 vin_218_221 dX4_cast_192 ?_
            refine vv_st (fun y e => ?_)
            obtain ⟨μ25, _⟩ := y
            have eμ25 := congrArg Prod.fst e
            clear e
            replace h := h μ25 eμ25
            refine vv_iload hC dX4_cast_193 0 rfl ?_
            exact vv_iret hC hM dX4_cast_195 h
          · replace h := h.2 c11
            refine vv_iconst hC dX4_cast_50 ic_m1 ?_
            exact vv_iret hC hM dX4_cast_51 h
def w_X4_print (v1 : Int32) (μ : WS) (Q : Int32 → WS → Prop) : Prop := (w_X4_isSeal v1 μ (fun r2 μ1 => ((r2 = 0) → Q (-1) μ1) ∧ ((¬ r2 = 0) → ((μ1.1 21 217 = 40) → Q (-1) μ1) ∧ ((¬ μ1.1 21 217 = 40) → ((¬ μ1.1 21 218 = 0) → (w_X4_keepAct μ1 (fun μ6 => (∀ x8 : Int32, x8 = μ6.1 21 217 → (w_X4_rowOf v1 μ6 (fun r10 μ9 => (w_X4_turnedRow r10 μ9 (fun r12 μ11 => (vp_in (96 + (3 * x8)) 221 ∧ (∀ μ13 : WS, μ13 = wset μ11 21 (96 + (3 * x8)).toNatClampNeg r12 → (vp_in ((96 + (3 * x8)) + 1) 221 ∧ (∀ μ14 : WS, μ14 = wset μ13 21 ((96 + (3 * x8)) + 1).toNatClampNeg v1 → (vp_in ((96 + (3 * x8)) + 2) 221 ∧ (∀ μ15 : WS, μ15 = wset μ14 21 ((96 + (3 * x8)) + 2).toNatClampNeg (μ14.1 21 219) → (∀ μ16 : WS, μ16 = wset μ15 21 217 ((μ15.1 21 217) + 1) → (∀ μ17 : WS, μ17 = wset μ16 21 218 ((μ16.1 21 218) - 1) → Q x8 μ17)))))))))))))))) ∧ ((μ1.1 21 218 = 0) → Q (-1) μ1)))))
abbrev rm_X4_print : Room := { frames := 2, cells := 0, slots := 0, locals := 43 }
theorem mf_X4_print : MFact yX4_print 1 rm_X4_print := ⟨by decide +kernel, rfl, rfl⟩
set_option maxHeartbeats 4000000 in
theorem met_X4_print (l : Launch) (D : va_G) (ac : Nat → ClassId) (ad : Nat → Nat) (Ex : Heap → Prop) (hLay : LayOk ad knM) (hEx : ExOk ad knM Ex) (v1 : Int32) (μ : WS) (Q : Int32 → WS → Prop) (h : w_X4_print v1 μ Q) : CMet l yX4_print cX4_print 3 (some .int) rm_X4_print D ac ad knM Ex [.ref (ad 0), .int v1] μ (qI Q) := by
  refine vv_met (lv := [(0, .ref (ad 0)), (1, .int v1)]) (by decide) hLay hEx (Nat.le_of_ble_eq_true rfl) rfl ⟨rfl, rfl⟩ (fun C hC hK hRm hLl hR hM => ?_)
  subst hLl
  have hRo : RoomOk (HPW D ac ad knM Ex (vS C)) (vR C) := HPW.room
  unfold w_X4_print at h
  refine vv_aload_n hC dX4_print_0 rfl 0 rfl ?_
  refine vv_iload_n hC dX4_print_1 rfl 1 rfl ?_
  refine vv_callVi hC hR hK hRo hRm [.int v1] [] (met_X4_isSeal (vL C) D ac ad Ex hLay hEx v1 μ _ h) gw4_383 mf_X4_isSeal rfl lm_0 rfl rfl rfl rfl dX4_print_2 (fun r2 μ1 h => ?_)
  refine vv_if_eq (tgt := 32) hC dX4_print_5 rfl (fun c3 => ?_) (fun c3 => ?_)
  · replace h := h.1 c3
    refine vv_iconst hC dX4_print_32 ic_m1 ?_
    exact vv_iret hC hM dX4_print_33 h
  · replace h := h.2 c3
    refine vv_aload_n hC dX4_print_8 rfl 0 rfl ?_
    refine vv_getf hC hR hK fa4_77 0 lm_0 (fm_40 ad _ _ _) dX4_print_9 ?_
    refine vv_sipush hC dX4_print_12 sp_217 ?_
    refine vv_iald hC hR hK 21 lm_21 vin_217_221 dX4_print_15 ?_
    refine vv_bipush hC dX4_print_16 bp_40 ?_
    refine vv_icmp_eq (tgt := 32) hC dX4_print_18 rfl (fun c4 => ?_) (fun c4 => ?_)
    · replace h := h.1 c4
      refine vv_iconst hC dX4_print_32 ic_m1 ?_
      exact vv_iret hC hM dX4_print_33 h
    · replace h := h.2 c4
      refine vv_aload_n hC dX4_print_21 rfl 0 rfl ?_
      refine vv_getf hC hR hK fa4_77 0 lm_0 (fm_40 ad _ _ _) dX4_print_22 ?_
      refine vv_sipush hC dX4_print_25 sp_218 ?_
      refine vv_iald hC hR hK 21 lm_21 vin_218_221 dX4_print_28 ?_
      refine vv_if_ne (tgt := 34) hC dX4_print_29 rfl (fun c5 => ?_) (fun c5 => ?_)
      · replace h := h.1 c5
        refine vv_aload_n hC dX4_print_34 rfl 0 rfl ?_
        refine vv_callVv hC hR hK hRo hRm [] [] (met_X4_keepAct (vL C) D ac ad Ex hLay hEx  μ1 _ h) gw4_389 mf_X4_keepAct rfl lm_0 rfl rfl rfl rfl dX4_print_35 (fun μ6 h => ?_)
        refine vv_aload_n hC dX4_print_38 rfl 0 rfl ?_
        refine vv_getf hC hR hK fa4_77 0 lm_0 (fm_40 ad _ _ _) dX4_print_39 ?_
        refine vv_sipush hC dX4_print_42 sp_217 ?_
        refine vv_iald hC hR hK 21 lm_21 vin_217_221 dX4_print_45 ?_
        refine vv_topi (fun x8 ex8 => ?_)
        replace h := h x8 ex8
        refine vv_istore_n (lv' := [(2, .int x8), (0, .ref (ad 0)), (1, .int v1)]) hC dX4_print_46 rfl (by decide) rfl ?_
        refine vv_aload_n hC dX4_print_47 rfl 1 rfl ?_
        refine vv_getf hC hR hK fa4_77 0 lm_0 (fm_40 ad _ _ _) dX4_print_48 ?_
        refine vv_bipush hC dX4_print_51 bp_96 ?_
        refine vv_iconst hC dX4_print_53 ic_3 ?_
        refine vv_iload_n hC dX4_print_54 rfl 0 rfl ?_
        refine vv_imul hC dX4_print_55 ?_
        refine vv_iadd hC dX4_print_56 ?_
        refine vv_aload_n hC dX4_print_57 rfl 1 rfl ?_
        refine vv_aload_n hC dX4_print_58 rfl 1 rfl ?_
        refine vv_iload_n hC dX4_print_59 rfl 2 rfl ?_
        refine vv_callVi hC hR hK hRo hRm [.int v1] [.ref (ad 0), .int (96 + (3 * x8)), .ref (ad 21)] (met_X4_rowOf (vL C) D ac ad Ex hLay hEx v1 μ6 _ h) gw4_392 mf_X4_rowOf rfl lm_0 rfl rfl rfl rfl dX4_print_60 (fun r10 μ9 h => ?_)
        refine vv_callVi hC hR hK hRo hRm [.int r10] [.int (96 + (3 * x8)), .ref (ad 21)] (met_X4_turnedRow (vL C) D ac ad Ex hLay hEx r10 μ9 _ h) gw4_349 mf_X4_turnedRow rfl lm_0 rfl rfl rfl rfl dX4_print_63 (fun r12 μ11 h => ?_)
        obtain ⟨hin, h⟩ := h
        refine vv_iast hC hR hK 21 lm_21 hin dX4_print_66 ?_
        refine vv_st (fun y e => ?_)
        obtain ⟨μ13, _⟩ := y
        have eμ13 := congrArg Prod.fst e
        clear e
        replace h := h μ13 eμ13
        refine vv_aload_n hC dX4_print_67 rfl 1 rfl ?_
        refine vv_getf hC hR hK fa4_77 0 lm_0 (fm_40 ad _ _ _) dX4_print_68 ?_
        refine vv_bipush hC dX4_print_71 bp_96 ?_
        refine vv_iconst hC dX4_print_73 ic_3 ?_
        refine vv_iload_n hC dX4_print_74 rfl 0 rfl ?_
        refine vv_imul hC dX4_print_75 ?_
        refine vv_iadd hC dX4_print_76 ?_
        refine vv_iconst hC dX4_print_77 ic_1 ?_
        refine vv_iadd hC dX4_print_78 ?_
        refine vv_iload_n hC dX4_print_79 rfl 2 rfl ?_
        obtain ⟨hin, h⟩ := h
        refine vv_iast hC hR hK 21 lm_21 hin dX4_print_80 ?_
        refine vv_st (fun y e => ?_)
        obtain ⟨μ14, _⟩ := y
        have eμ14 := congrArg Prod.fst e
        clear e
        replace h := h μ14 eμ14
        refine vv_aload_n hC dX4_print_81 rfl 1 rfl ?_
        refine vv_getf hC hR hK fa4_77 0 lm_0 (fm_40 ad _ _ _) dX4_print_82 ?_
        refine vv_bipush hC dX4_print_85 bp_96 ?_
        refine vv_iconst hC dX4_print_87 ic_3 ?_
        refine vv_iload_n hC dX4_print_88 rfl 0 rfl ?_
        refine vv_imul hC dX4_print_89 ?_
        refine vv_iadd hC dX4_print_90 ?_
        refine vv_iconst hC dX4_print_91 ic_2 ?_
        refine vv_iadd hC dX4_print_92 ?_
        refine vv_aload_n hC dX4_print_93 rfl 1 rfl ?_
        refine vv_getf hC hR hK fa4_77 0 lm_0 (fm_40 ad _ _ _) dX4_print_94 ?_
        refine vv_sipush hC dX4_print_97 sp_219 ?_
        refine vv_iald hC hR hK 21 lm_21 vin_219_221 dX4_print_100 ?_
        obtain ⟨hin, h⟩ := h
        refine vv_iast hC hR hK 21 lm_21 hin dX4_print_101 ?_
        refine vv_st (fun y e => ?_)
        obtain ⟨μ15, _⟩ := y
        have eμ15 := congrArg Prod.fst e
        clear e
        replace h := h μ15 eμ15
        refine vv_aload_n hC dX4_print_102 rfl 1 rfl ?_
        refine vv_getf hC hR hK fa4_77 0 lm_0 (fm_40 ad _ _ _) dX4_print_103 ?_
        refine vv_sipush hC dX4_print_106 sp_217 ?_
        refine vv_dup2 hC dX4_print_109 rfl rfl ?_
        refine vv_iald hC hR hK 21 lm_21 vin_217_221 dX4_print_110 ?_
        refine vv_iconst hC dX4_print_111 ic_1 ?_
        refine vv_iadd hC dX4_print_112 ?_
        refine vv_iast hC hR hK 21 lm_21 vin_217_221 dX4_print_113 ?_
        refine vv_st (fun y e => ?_)
        obtain ⟨μ16, _⟩ := y
        have eμ16 := congrArg Prod.fst e
        clear e
        replace h := h μ16 eμ16
        refine vv_aload_n hC dX4_print_114 rfl 1 rfl ?_
        refine vv_getf hC hR hK fa4_77 0 lm_0 (fm_40 ad _ _ _) dX4_print_115 ?_
        refine vv_sipush hC dX4_print_118 sp_218 ?_
        refine vv_dup2 hC dX4_print_121 rfl rfl ?_
        refine vv_iald hC hR hK 21 lm_21 vin_218_221 dX4_print_122 ?_
        refine vv_iconst hC dX4_print_123 ic_1 ?_
        refine vv_isub hC dX4_print_124 ?_
        refine vv_iast hC hR hK 21 lm_21 vin_218_221 dX4_print_125 ?_
        refine vv_st (fun y e => ?_)
        obtain ⟨μ17, _⟩ := y
        have eμ17 := congrArg Prod.fst e
        clear e
        replace h := h μ17 eμ17
        refine vv_iload_n hC dX4_print_126 rfl 0 rfl ?_
        exact vv_iret hC hM dX4_print_127 h
      · replace h := h.2 c5
        refine vv_iconst hC dX4_print_32 ic_m1 ?_
        exact vv_iret hC hM dX4_print_33 h
def w_X4_crack (v1 : Int32) (v2 : Int32) (μ : WS) (Q : Int32 → WS → Prop) : Prop := (w_X4_isSeal v1 μ (fun r2 μ1 => ((r2 = 0) → Q 0 μ1) ∧ ((¬ r2 = 0) → (w_X4_width μ1 (fun r5 μ4 => (w_X4_isIn v2 0 (r5 - 1) μ4 (fun r7 μ6 => ((r7 = 0) → Q 0 μ6) ∧ ((¬ r7 = 0) → (w_X4_rowOf v1 μ6 (fun r10 μ9 => ((¬ (r10 >>> (v2 &&& 31)) &&& 1 = 0) → (w_X4_keepAct μ9 (fun μ12 => (vp_in (4 * v1) 221 ∧ (vp_in (4 * v1) 221 ∧ (∀ μ14 : WS, μ14 = wset μ12 21 (4 * v1).toNatClampNeg ((μ12.1 21 (4 * v1).toNatClampNeg) - (1 <<< (v2 &&& 31))) → Q 1 μ14)))))) ∧ (((r10 >>> (v2 &&& 31)) &&& 1 = 0) → Q 0 μ9)))))))))))
abbrev rm_X4_crack : Room := { frames := 2, cells := 0, slots := 0, locals := 43 }
theorem mf_X4_crack : MFact yX4_crack 2 rm_X4_crack := ⟨by decide +kernel, rfl, rfl⟩
set_option maxHeartbeats 4000000 in
theorem met_X4_crack (l : Launch) (D : va_G) (ac : Nat → ClassId) (ad : Nat → Nat) (Ex : Heap → Prop) (hLay : LayOk ad knM) (hEx : ExOk ad knM Ex) (v1 : Int32) (v2 : Int32) (μ : WS) (Q : Int32 → WS → Prop) (h : w_X4_crack v1 v2 μ Q) : CMet l yX4_crack cX4_crack 3 (some .boolean) rm_X4_crack D ac ad knM Ex [.ref (ad 0), .int v1, .int v2] μ (qI Q) := by
  refine vv_met (lv := [(0, .ref (ad 0)), (1, .int v1), (2, .int v2)]) (by decide) hLay hEx (Nat.le_of_ble_eq_true rfl) rfl ⟨rfl, rfl⟩ (fun C hC hK hRm hLl hR hM => ?_)
  subst hLl
  have hRo : RoomOk (HPW D ac ad knM Ex (vS C)) (vR C) := HPW.room
  unfold w_X4_crack at h
  refine vv_aload_n hC dX4_crack_0 rfl 0 rfl ?_
  refine vv_iload_n hC dX4_crack_1 rfl 1 rfl ?_
  refine vv_callVi hC hR hK hRo hRm [.int v1] [] (met_X4_isSeal (vL C) D ac ad Ex hLay hEx v1 μ _ h) gw4_383 mf_X4_isSeal rfl lm_0 rfl rfl rfl rfl dX4_crack_2 (fun r2 μ1 h => ?_)
  refine vv_if_eq (tgt := 34) hC dX4_crack_5 rfl (fun c3 => ?_) (fun c3 => ?_)
  · replace h := h.1 c3
    refine vv_iconst hC dX4_crack_34 ic_0 ?_
    exact vv_zret hC hM dX4_crack_35 isB_0 h
  · replace h := h.2 c3
    refine vv_iload_n hC dX4_crack_8 rfl 2 rfl ?_
    refine vv_iconst hC dX4_crack_9 ic_0 ?_
    refine vv_aload_n hC dX4_crack_10 rfl 0 rfl ?_
    refine vv_callVi hC hR hK hRo hRm [] [.int 0, .int v2] (met_X4_width (vL C) D ac ad Ex hLay hEx  μ1 _ h) gw4_342 mf_X4_width rfl lm_0 rfl rfl rfl rfl dX4_crack_11 (fun r5 μ4 h => ?_)
    refine vv_iconst hC dX4_crack_14 ic_1 ?_
    refine vv_isub hC dX4_crack_15 ?_
    refine vv_callSi hC hR hK hRo hRm [.int v2, .int 0, .int (r5 - 1)] [] (met_X4_isIn (vL C) D ac ad Ex hLay hEx v2 0 (r5 - 1) μ4 _ h) gw4_345 mf_X4_isIn rfl rfl rfl dX4_crack_16 (fun r7 μ6 h => ?_)
    refine vv_if_eq (tgt := 34) hC dX4_crack_19 rfl (fun c8 => ?_) (fun c8 => ?_)
    · replace h := h.1 c8
      refine vv_iconst hC dX4_crack_34 ic_0 ?_
      exact vv_zret hC hM dX4_crack_35 isB_0 h
    · replace h := h.2 c8
      refine vv_aload_n hC dX4_crack_22 rfl 0 rfl ?_
      refine vv_iload_n hC dX4_crack_23 rfl 1 rfl ?_
      refine vv_callVi hC hR hK hRo hRm [.int v1] [] (met_X4_rowOf (vL C) D ac ad Ex hLay hEx v1 μ6 _ h) gw4_392 mf_X4_rowOf rfl lm_0 rfl rfl rfl rfl dX4_crack_24 (fun r10 μ9 h => ?_)
      refine vv_iload_n hC dX4_crack_27 rfl 2 rfl ?_
      refine vv_ishr hC dX4_crack_28 ?_
      refine vv_iconst hC dX4_crack_29 ic_1 ?_
      refine vv_iand hC dX4_crack_30 ?_
      refine vv_if_ne (tgt := 36) hC dX4_crack_31 rfl (fun c11 => ?_) (fun c11 => ?_)
      · replace h := h.1 c11
        refine vv_aload_n hC dX4_crack_36 rfl 0 rfl ?_
        refine vv_callVv hC hR hK hRo hRm [] [] (met_X4_keepAct (vL C) D ac ad Ex hLay hEx  μ9 _ h) gw4_389 mf_X4_keepAct rfl lm_0 rfl rfl rfl rfl dX4_crack_37 (fun μ12 h => ?_)
        refine vv_aload_n hC dX4_crack_40 rfl 0 rfl ?_
        refine vv_getf hC hR hK fa4_77 0 lm_0 (fm_40 ad _ _ _) dX4_crack_41 ?_
        refine vv_iconst hC dX4_crack_44 ic_4 ?_
        refine vv_iload_n hC dX4_crack_45 rfl 1 rfl ?_
        refine vv_imul hC dX4_crack_46 ?_
        refine vv_dup2 hC dX4_crack_47 rfl rfl ?_
        obtain ⟨hin, h⟩ := h
        refine vv_iald hC hR hK 21 lm_21 hin dX4_crack_48 ?_
        refine vv_iconst hC dX4_crack_49 ic_1 ?_
        refine vv_iload_n hC dX4_crack_50 rfl 2 rfl ?_
        refine vv_ishl hC dX4_crack_51 ?_
        refine vv_isub hC dX4_crack_52 ?_
        obtain ⟨hin, h⟩ := h
        refine vv_iast hC hR hK 21 lm_21 hin dX4_crack_53 ?_
        refine vv_st (fun y e => ?_)
        obtain ⟨μ14, _⟩ := y
        have eμ14 := congrArg Prod.fst e
        clear e
        replace h := h μ14 eμ14
        refine vv_iconst hC dX4_crack_54 ic_1 ?_
        exact vv_zret hC hM dX4_crack_55 isB_1 h
      · replace h := h.2 c11
        refine vv_iconst hC dX4_crack_34 ic_0 ?_
        exact vv_zret hC hM dX4_crack_35 isB_0 h
def w_X4_year (μ : WS) (Q : Int32 → WS → Prop) : Prop := ((¬ μ.1 21 219 = 999) → (w_X4_keepAct μ (fun μ2 => (∀ μ4 : WS, μ4 = wset μ2 21 219 ((μ2.1 21 219) + 1) → Q (μ4.1 21 219) μ4)))) ∧ ((μ.1 21 219 = 999) → Q (-1) μ)
abbrev rm_X4_year : Room := { frames := 1, cells := 0, slots := 0, locals := 21 }
theorem mf_X4_year : MFact yX4_year 0 rm_X4_year := ⟨by decide +kernel, rfl, rfl⟩
set_option maxHeartbeats 4000000 in
theorem met_X4_year (l : Launch) (D : va_G) (ac : Nat → ClassId) (ad : Nat → Nat) (Ex : Heap → Prop) (hLay : LayOk ad knM) (hEx : ExOk ad knM Ex) (μ : WS) (Q : Int32 → WS → Prop) (h : w_X4_year  μ Q) : CMet l yX4_year cX4_year 1 (some .int) rm_X4_year D ac ad knM Ex [.ref (ad 0)] μ (qI Q) := by
  refine vv_met (lv := [(0, .ref (ad 0))]) (by decide) hLay hEx (Nat.le_of_ble_eq_true rfl) rfl ⟨rfl, rfl⟩ (fun C hC hK hRm hLl hR hM => ?_)
  subst hLl
  have hRo : RoomOk (HPW D ac ad knM Ex (vS C)) (vR C) := HPW.room
  unfold w_X4_year at h
  refine vv_aload_n hC dX4_year_0 rfl 0 rfl ?_
  refine vv_getf hC hR hK fa4_77 0 lm_0 (fm_40 ad _ _ _) dX4_year_1 ?_
  refine vv_sipush hC dX4_year_4 sp_219 ?_
  refine vv_iald hC hR hK 21 lm_21 vin_219_221 dX4_year_7 ?_
  refine vv_sipush hC dX4_year_8 sp_999 ?_
  refine vv_icmp_ne (tgt := 16) hC dX4_year_11 rfl (fun c1 => ?_) (fun c1 => ?_)
  · replace h := h.1 c1
    refine vv_aload_n hC dX4_year_16 rfl 0 rfl ?_
    refine vv_callVv hC hR hK hRo hRm [] [] (met_X4_keepAct (vL C) D ac ad Ex hLay hEx  μ _ h) gw4_389 mf_X4_keepAct rfl lm_0 rfl rfl rfl rfl dX4_year_17 (fun μ2 h => ?_)
    refine vv_aload_n hC dX4_year_20 rfl 0 rfl ?_
    refine vv_getf hC hR hK fa4_77 0 lm_0 (fm_40 ad _ _ _) dX4_year_21 ?_
    refine vv_sipush hC dX4_year_24 sp_219 ?_
    refine vv_dup2 hC dX4_year_27 rfl rfl ?_
    refine vv_iald hC hR hK 21 lm_21 vin_219_221 dX4_year_28 ?_
    refine vv_iconst hC dX4_year_29 ic_1 ?_
    refine vv_iadd hC dX4_year_30 ?_
    refine vv_iast hC hR hK 21 lm_21 vin_219_221 dX4_year_31 ?_
    refine vv_st (fun y e => ?_)
    obtain ⟨μ4, _⟩ := y
    have eμ4 := congrArg Prod.fst e
    clear e
    replace h := h μ4 eμ4
    refine vv_aload_n hC dX4_year_32 rfl 0 rfl ?_
    refine vv_getf hC hR hK fa4_77 0 lm_0 (fm_40 ad _ _ _) dX4_year_33 ?_
    refine vv_sipush hC dX4_year_36 sp_219 ?_
    refine vv_iald hC hR hK 21 lm_21 vin_219_221 dX4_year_39 ?_
    exact vv_iret hC hM dX4_year_40 h
  · replace h := h.2 c1
    refine vv_iconst hC dX4_year_14 ic_m1 ?_
    exact vv_iret hC hM dX4_year_15 h
def w_X4_exchange_2b (P2 : Int32 → WS → Prop) (v1 : Int32) (μ : WS) (Q : WS → Prop) : Prop := ((221 ≤ v1) → Q μ) ∧ ((¬ 221 ≤ v1) → (vp_in ((221 * (μ.1 0 42)) + v1) 9061 ∧ (∀ x2 : Int32, x2 = μ.1 22 ((221 * (μ.1 0 42)) + v1).toNatClampNeg → (vp_in v1 221 ∧ (vp_in ((221 * (μ.1 0 42)) + v1) 9061 ∧ (∀ μ3 : WS, μ3 = wset μ 22 ((221 * (μ.1 0 42)) + v1).toNatClampNeg (μ.1 21 v1.toNatClampNeg) → (vp_in v1 221 ∧ (∀ μ4 : WS, μ4 = wset μ3 21 v1.toNatClampNeg x2 → P2 (v1 + 1) μ4))))))))
def w_X4_exchange_2 (v1 : Int32) (μ : WS) (Q : WS → Prop) : Prop := ∀ P2 : Int32 → WS → Prop, (∀ (v1 : Int32) (μ : WS), w_X4_exchange_2b  P2 v1 μ Q → P2 v1 μ) → P2 v1 μ
def w_X4_exchange (μ : WS) (Q : WS → Prop) : Prop := w_X4_exchange_2 0 μ Q
abbrev rm_X4_exchange : Room := { frames := 0, cells := 0, slots := 0, locals := 0 }
theorem mf_X4_exchange : MFact yX4_exchange 0 rm_X4_exchange := ⟨by decide +kernel, rfl, rfl⟩
set_option maxHeartbeats 4000000 in
theorem met_X4_exchange (l : Launch) (D : va_G) (ac : Nat → ClassId) (ad : Nat → Nat) (Ex : Heap → Prop) (hLay : LayOk ad knM) (hEx : ExOk ad knM Ex) (μ : WS) (Q : WS → Prop) (h : w_X4_exchange  μ Q) : CMet l yX4_exchange cX4_exchange 3 none rm_X4_exchange D ac ad knM Ex [.ref (ad 0)] μ (qV Q) := by
  refine vv_met (lv := [(0, .ref (ad 0))]) (by decide) hLay hEx (Nat.le_of_ble_eq_true rfl) rfl ⟨rfl, rfl⟩ (fun C hC hK hRm hLl hR hM => ?_)
  subst hLl
  have hRo : RoomOk (HPW D ac ad knM Ex (vS C)) (vR C) := HPW.room
  have L2 : ∀ (v1 : Int32) (μ : WS), w_X4_exchange_2  v1 μ Q → VV C 3 (HPW D ac ad knM Ex (vS C)) (vQ C (QcW D ac ad knM (qV Q)) 0 0 (inLay ad knM)) (μ, ()) 2 [(0, .ref (ad 0)), (1, .int v1)] [] := by
    intro  v1 μ h
    refine h (fun v1 μ => VV C 3 (HPW D ac ad knM Ex (vS C)) (vQ C (QcW D ac ad knM (qV Q)) 0 0 (inLay ad knM)) (μ, ()) 2 [(0, .ref (ad 0)), (1, .int v1)] []) ?_
    clear h; intro v1 μ h
    have h2 : ∀ (v1 : Int32) (μ : WS), (fun v1 (μ : WS) => VV C 3 (HPW D ac ad knM Ex (vS C)) (vQ C (QcW D ac ad knM (qV Q)) 0 0 (inLay ad knM)) (μ, ()) 2 [(0, .ref (ad 0)), (1, .int v1)] []) v1 μ → VV C 3 (HPW D ac ad knM Ex (vS C)) (vQ C (QcW D ac ad knM (qV Q)) 0 0 (inLay ad knM)) (μ, ()) 2 [(0, .ref (ad 0)), (1, .int v1)] [] := fun _ _ h => h
    unfold w_X4_exchange_2b at h
    refine vv_iload_n hC dX4_exchange_2 rfl 1 rfl ?_
    refine vv_sipush hC dX4_exchange_3 sp_221 ?_
    refine vv_icmp_ge (tgt := 59) hC dX4_exchange_6 rfl (fun c1 => ?_) (fun c1 => ?_)
    · replace h := h.1 c1
      exact vv_vret hC hM dX4_exchange_59 h
    · replace h := h.2 c1
      refine vv_aload_n hC dX4_exchange_9 rfl 0 rfl ?_
      refine vv_getf hC hR hK fa4_80 0 lm_0 (fm_41 ad _ _ _) dX4_exchange_10 ?_
      refine vv_sipush hC dX4_exchange_13 sp_221 ?_
      refine vv_aload_n hC dX4_exchange_16 rfl 0 rfl ?_
      refine vv_getf hC hR hK fa4_371 0 lm_0 (fm_42 ad _ _ _) dX4_exchange_17 ?_
      refine vv_imul hC dX4_exchange_20 ?_
      refine vv_iload_n hC dX4_exchange_21 rfl 1 rfl ?_
      refine vv_iadd hC dX4_exchange_22 ?_
      obtain ⟨hin, h⟩ := h
      refine vv_iald hC hR hK 22 lm_22 hin dX4_exchange_23 ?_
      refine vv_topi (fun x2 ex2 => ?_)
      replace h := h x2 ex2
      refine vv_istore_n (lv' := [(2, .int x2), (0, .ref (ad 0)), (1, .int v1)]) hC dX4_exchange_24 rfl (by decide) rfl ?_
      refine vv_aload_n hC dX4_exchange_25 rfl 1 rfl ?_
      refine vv_getf hC hR hK fa4_80 0 lm_0 (fm_41 ad _ _ _) dX4_exchange_26 ?_
      refine vv_sipush hC dX4_exchange_29 sp_221 ?_
      refine vv_aload_n hC dX4_exchange_32 rfl 1 rfl ?_
      refine vv_getf hC hR hK fa4_371 0 lm_0 (fm_42 ad _ _ _) dX4_exchange_33 ?_
      refine vv_imul hC dX4_exchange_36 ?_
      refine vv_iload_n hC dX4_exchange_37 rfl 2 rfl ?_
      refine vv_iadd hC dX4_exchange_38 ?_
      refine vv_aload_n hC dX4_exchange_39 rfl 1 rfl ?_
      refine vv_getf hC hR hK fa4_77 0 lm_0 (fm_40 ad _ _ _) dX4_exchange_40 ?_
      refine vv_iload_n hC dX4_exchange_43 rfl 2 rfl ?_
      obtain ⟨hin, h⟩ := h
      refine vv_iald hC hR hK 21 lm_21 hin dX4_exchange_44 ?_
      obtain ⟨hin, h⟩ := h
      refine vv_iast hC hR hK 22 lm_22 hin dX4_exchange_45 ?_
      refine vv_st (fun y e => ?_)
      obtain ⟨μ3, _⟩ := y
      have eμ3 := congrArg Prod.fst e
      clear e
      replace h := h μ3 eμ3
      refine vv_aload_n hC dX4_exchange_46 rfl 1 rfl ?_
      refine vv_getf hC hR hK fa4_77 0 lm_0 (fm_40 ad _ _ _) dX4_exchange_47 ?_
      refine vv_iload_n hC dX4_exchange_50 rfl 2 rfl ?_
      refine vv_iload_n hC dX4_exchange_51 rfl 0 rfl ?_
      obtain ⟨hin, h⟩ := h
      refine vv_iast hC hR hK 21 lm_21 hin dX4_exchange_52 ?_
      refine vv_st (fun y e => ?_)
      obtain ⟨μ4, _⟩ := y
      have eμ4 := congrArg Prod.fst e
      clear e
      replace h := h μ4 eμ4
      refine vv_iinc (pl := 2) (v := v1 + 1) (lv' := [(1, .int (v1 + 1)), (2, .int x2), (0, .ref (ad 0))]) hC dX4_exchange_53 rfl rfl (by decide) rfl ?_
      refine vv_goto (tgt := 2) hC dX4_exchange_56 rfl ?_
      refine vv_lv [2, 0] rfl ?_
      exact h2 _ _ h
  unfold w_X4_exchange at h
  refine vv_iconst hC dX4_exchange_0 ic_0 ?_
  refine vv_istore_n (lv' := [(1, .int 0), (0, .ref (ad 0))]) hC dX4_exchange_1 rfl (by decide) rfl ?_
  refine vv_lv [1, 0] rfl ?_
  exact L2  _ _ h
def w_X4_undo (μ : WS) (Q : Int32 → WS → Prop) : Prop := ((¬ μ.1 0 42 = 0) → (∀ μ2 : WS, μ2 = wset μ 0 42 ((μ.1 0 42) - 1) → (∀ μ3 : WS, μ3 = wset μ2 0 43 ((μ2.1 0 43) + 1) → (w_X4_exchange μ3 (fun μ4 => Q 1 μ4))))) ∧ ((μ.1 0 42 = 0) → Q 0 μ)
abbrev rm_X4_undo : Room := { frames := 1, cells := 0, slots := 0, locals := 22 }
theorem mf_X4_undo : MFact yX4_undo 0 rm_X4_undo := ⟨by decide +kernel, rfl, rfl⟩
set_option maxHeartbeats 4000000 in
theorem met_X4_undo (l : Launch) (D : va_G) (ac : Nat → ClassId) (ad : Nat → Nat) (Ex : Heap → Prop) (hLay : LayOk ad knM) (hEx : ExOk ad knM Ex) (μ : WS) (Q : Int32 → WS → Prop) (h : w_X4_undo  μ Q) : CMet l yX4_undo cX4_undo 1 (some .boolean) rm_X4_undo D ac ad knM Ex [.ref (ad 0)] μ (qI Q) := by
  refine vv_met (lv := [(0, .ref (ad 0))]) (by decide) hLay hEx (Nat.le_of_ble_eq_true rfl) rfl ⟨rfl, rfl⟩ (fun C hC hK hRm hLl hR hM => ?_)
  subst hLl
  have hRo : RoomOk (HPW D ac ad knM Ex (vS C)) (vR C) := HPW.room
  unfold w_X4_undo at h
  refine vv_aload_n hC dX4_undo_0 rfl 0 rfl ?_
  refine vv_getf hC hR hK fa4_371 0 lm_0 (fm_42 ad _ _ _) dX4_undo_1 ?_
  refine vv_if_ne (tgt := 9) hC dX4_undo_4 rfl (fun c1 => ?_) (fun c1 => ?_)
  · replace h := h.1 c1
    refine vv_aload_n hC dX4_undo_9 rfl 0 rfl ?_
    refine vv_dup hC dX4_undo_10 rfl ?_
    refine vv_getf hC hR hK fa4_371 0 lm_0 (fm_42 ad _ _ _) dX4_undo_11 ?_
    refine vv_iconst hC dX4_undo_14 ic_1 ?_
    refine vv_isub hC dX4_undo_15 ?_
    refine vv_puti hC hR hK fa4_371 0 lm_0 fn_42 rfl rfl dX4_undo_16 ?_
    refine vv_st (fun y e => ?_)
    obtain ⟨μ2, _⟩ := y
    have eμ2 := congrArg Prod.fst e
    clear e
    replace h := h μ2 eμ2
    refine vv_aload_n hC dX4_undo_19 rfl 0 rfl ?_
    refine vv_dup hC dX4_undo_20 rfl ?_
    refine vv_getf hC hR hK fa4_374 0 lm_0 (fm_43 ad _ _ _) dX4_undo_21 ?_
    refine vv_iconst hC dX4_undo_24 ic_1 ?_
    refine vv_iadd hC dX4_undo_25 ?_
    refine vv_puti hC hR hK fa4_374 0 lm_0 fn_43 rfl rfl dX4_undo_26 ?_
    refine vv_st (fun y e => ?_)
    obtain ⟨μ3, _⟩ := y
    have eμ3 := congrArg Prod.fst e
    clear e
    replace h := h μ3 eμ3
    refine vv_aload_n hC dX4_undo_29 rfl 0 rfl ?_
    refine vv_callVv hC hR hK hRo hRm [] [] (met_X4_exchange (vL C) D ac ad Ex hLay hEx  μ3 _ h) gw4_395 mf_X4_exchange rfl lm_0 rfl rfl rfl rfl dX4_undo_30 (fun μ4 h => ?_)
    refine vv_iconst hC dX4_undo_33 ic_1 ?_
    exact vv_zret hC hM dX4_undo_34 isB_1 h
  · replace h := h.2 c1
    refine vv_iconst hC dX4_undo_7 ic_0 ?_
    exact vv_zret hC hM dX4_undo_8 isB_0 h
def w_X4_redo (μ : WS) (Q : Int32 → WS → Prop) : Prop := ((¬ μ.1 0 43 = 0) → (w_X4_exchange μ (fun μ2 => (∀ μ4 : WS, μ4 = wset μ2 0 42 ((μ2.1 0 42) + 1) → (∀ μ5 : WS, μ5 = wset μ4 0 43 ((μ4.1 0 43) - 1) → Q 1 μ5))))) ∧ ((μ.1 0 43 = 0) → Q 0 μ)
abbrev rm_X4_redo : Room := { frames := 1, cells := 0, slots := 0, locals := 22 }
theorem mf_X4_redo : MFact yX4_redo 0 rm_X4_redo := ⟨by decide +kernel, rfl, rfl⟩
set_option maxHeartbeats 4000000 in
theorem met_X4_redo (l : Launch) (D : va_G) (ac : Nat → ClassId) (ad : Nat → Nat) (Ex : Heap → Prop) (hLay : LayOk ad knM) (hEx : ExOk ad knM Ex) (μ : WS) (Q : Int32 → WS → Prop) (h : w_X4_redo  μ Q) : CMet l yX4_redo cX4_redo 1 (some .boolean) rm_X4_redo D ac ad knM Ex [.ref (ad 0)] μ (qI Q) := by
  refine vv_met (lv := [(0, .ref (ad 0))]) (by decide) hLay hEx (Nat.le_of_ble_eq_true rfl) rfl ⟨rfl, rfl⟩ (fun C hC hK hRm hLl hR hM => ?_)
  subst hLl
  have hRo : RoomOk (HPW D ac ad knM Ex (vS C)) (vR C) := HPW.room
  unfold w_X4_redo at h
  refine vv_aload_n hC dX4_redo_0 rfl 0 rfl ?_
  refine vv_getf hC hR hK fa4_374 0 lm_0 (fm_43 ad _ _ _) dX4_redo_1 ?_
  refine vv_if_ne (tgt := 9) hC dX4_redo_4 rfl (fun c1 => ?_) (fun c1 => ?_)
  · replace h := h.1 c1
    refine vv_aload_n hC dX4_redo_9 rfl 0 rfl ?_
    refine vv_callVv hC hR hK hRo hRm [] [] (met_X4_exchange (vL C) D ac ad Ex hLay hEx  μ _ h) gw4_395 mf_X4_exchange rfl lm_0 rfl rfl rfl rfl dX4_redo_10 (fun μ2 h => ?_)
    refine vv_aload_n hC dX4_redo_13 rfl 0 rfl ?_
    refine vv_dup hC dX4_redo_14 rfl ?_
    refine vv_getf hC hR hK fa4_371 0 lm_0 (fm_42 ad _ _ _) dX4_redo_15 ?_
    refine vv_iconst hC dX4_redo_18 ic_1 ?_
    refine vv_iadd hC dX4_redo_19 ?_
    refine vv_puti hC hR hK fa4_371 0 lm_0 fn_42 rfl rfl dX4_redo_20 ?_
    refine vv_st (fun y e => ?_)
    obtain ⟨μ4, _⟩ := y
    have eμ4 := congrArg Prod.fst e
    clear e
    replace h := h μ4 eμ4
    refine vv_aload_n hC dX4_redo_23 rfl 0 rfl ?_
    refine vv_dup hC dX4_redo_24 rfl ?_
    refine vv_getf hC hR hK fa4_374 0 lm_0 (fm_43 ad _ _ _) dX4_redo_25 ?_
    refine vv_iconst hC dX4_redo_28 ic_1 ?_
    refine vv_isub hC dX4_redo_29 ?_
    refine vv_puti hC hR hK fa4_374 0 lm_0 fn_43 rfl rfl dX4_redo_30 ?_
    refine vv_st (fun y e => ?_)
    obtain ⟨μ5, _⟩ := y
    have eμ5 := congrArg Prod.fst e
    clear e
    replace h := h μ5 eμ5
    refine vv_iconst hC dX4_redo_33 ic_1 ?_
    exact vv_zret hC hM dX4_redo_34 isB_1 h
  · replace h := h.2 c1
    refine vv_iconst hC dX4_redo_7 ic_0 ?_
    exact vv_zret hC hM dX4_redo_8 isB_0 h
def w_X4_whose_71 (P31 : Int32 → Int32 → Int32 → Int32 → Int32 → WS → Prop) (v1 : Int32) (v2 : Int32) (v3 : Int32) (v4 : Int32) (v5 : Int32) (μ : WS) (Q : Int32 → WS → Prop) : Prop := P31 v1 v2 v3 v4 (v5 + 1) μ
def w_X4_whose_31b (P31 : Int32 → Int32 → Int32 → Int32 → Int32 → WS → Prop) (v1 : Int32) (v2 : Int32) (v3 : Int32) (v4 : Int32) (v5 : Int32) (μ : WS) (Q : Int32 → WS → Prop) : Prop := (vp_in (μ.1 0 29) 2 ∧ ((μ.1 5 (μ.1 0 29).toNatClampNeg ≤ v5) → Q v4 μ) ∧ ((¬ μ.1 5 (μ.1 0 29).toNatClampNeg ≤ v5) → (w_X4_rowOf v1 μ (fun r12 μ11 => (w_X4_castOf r12 v5 v2 0 μ11 (fun r14 μ13 => ((¬ r14 = v3) → w_X4_whose_71 P31 v1 v2 v3 v4 v5 μ13 Q) ∧ ((r14 = v3) → (∀ x16 : Int32, x16 = v4 ||| (1 <<< (v5 &&& 31)) → w_X4_whose_71 P31 v1 v2 v3 x16 v5 μ13 Q))))))))
def w_X4_whose_31 (v1 : Int32) (v2 : Int32) (v3 : Int32) (v4 : Int32) (v5 : Int32) (μ : WS) (Q : Int32 → WS → Prop) : Prop := ∀ P31 : Int32 → Int32 → Int32 → Int32 → Int32 → WS → Prop, (∀ (v1 : Int32) (v2 : Int32) (v3 : Int32) (v4 : Int32) (v5 : Int32) (μ : WS), w_X4_whose_31b  P31 v1 v2 v3 v4 v5 μ Q → P31 v1 v2 v3 v4 v5 μ) → P31 v1 v2 v3 v4 v5 μ
def w_X4_whose (v1 : Int32) (v2 : Int32) (v3 : Int32) (μ : WS) (Q : Int32 → WS → Prop) : Prop := (w_X4_isSeal v1 μ (fun r2 μ1 => ((r2 = 0) → Q (-1) μ1) ∧ ((¬ r2 = 0) → (w_X4_isHeat v2 μ1 (fun r5 μ4 => ((r5 = 0) → Q (-1) μ4) ∧ ((¬ r5 = 0) → (w_X4_isRow v3 μ4 (fun r8 μ7 => ((¬ r8 = 0) → w_X4_whose_31 v1 v2 v3 0 0 μ7 Q) ∧ ((r8 = 0) → Q (-1) μ7)))))))))
abbrev rm_X4_whose : Room := { frames := 3, cells := 0, slots := 0, locals := 74 }
theorem mf_X4_whose : MFact yX4_whose 3 rm_X4_whose := ⟨by decide +kernel, rfl, rfl⟩
set_option maxHeartbeats 4000000 in
theorem met_X4_whose (l : Launch) (D : va_G) (ac : Nat → ClassId) (ad : Nat → Nat) (Ex : Heap → Prop) (hLay : LayOk ad knM) (hEx : ExOk ad knM Ex) (v1 : Int32) (v2 : Int32) (v3 : Int32) (μ : WS) (Q : Int32 → WS → Prop) (h : w_X4_whose v1 v2 v3 μ Q) : CMet l yX4_whose cX4_whose 6 (some .int) rm_X4_whose D ac ad knM Ex [.ref (ad 0), .int v1, .int v2, .int v3] μ (qI Q) := by
  refine vv_met (lv := [(0, .ref (ad 0)), (1, .int v1), (2, .int v2), (3, .int v3)]) (by decide) hLay hEx (Nat.le_of_ble_eq_true rfl) rfl ⟨rfl, rfl⟩ (fun C hC hK hRm hLl hR hM => ?_)
  subst hLl
  have hRo : RoomOk (HPW D ac ad knM Ex (vS C)) (vR C) := HPW.room
  have L71 : ∀ (P31 : Int32 → Int32 → Int32 → Int32 → Int32 → WS → Prop) (h31 : ∀ (v1 : Int32) (v2 : Int32) (v3 : Int32) (v4 : Int32) (v5 : Int32) (μ : WS), P31 v1 v2 v3 v4 v5 μ → VV C 6 (HPW D ac ad knM Ex (vS C)) (vQ C (QcW D ac ad knM (qI Q)) 0 0 (inLay ad knM)) (μ, ()) 31 [(0, .ref (ad 0)), (1, .int v1), (2, .int v2), (3, .int v3), (4, .int v4), (5, .int v5)] []) (v1 : Int32) (v2 : Int32) (v3 : Int32) (v4 : Int32) (v5 : Int32) (μ : WS), w_X4_whose_71 P31 v1 v2 v3 v4 v5 μ Q → VV C 6 (HPW D ac ad knM Ex (vS C)) (vQ C (QcW D ac ad knM (qI Q)) 0 0 (inLay ad knM)) (μ, ()) 71 [(0, .ref (ad 0)), (1, .int v1), (2, .int v2), (3, .int v3), (4, .int v4), (5, .int v5)] [] := by
    intro P31 h31 v1 v2 v3 v4 v5 μ h
    unfold w_X4_whose_71 at h
    refine vv_iinc (pl := 5) (v := v5 + 1) (lv' := [(5, .int (v5 + 1)), (0, .ref (ad 0)), (1, .int v1), (2, .int v2), (3, .int v3), (4, .int v4)]) hC dX4_whose_71 rfl rfl (by decide) rfl ?_
    refine vv_goto (tgt := 31) hC dX4_whose_74 rfl ?_
    refine vv_lv [1, 2, 3, 4, 5, 0] rfl ?_
    exact h31 _ _ _ _ _ _ h
  have L31 : ∀ (v1 : Int32) (v2 : Int32) (v3 : Int32) (v4 : Int32) (v5 : Int32) (μ : WS), w_X4_whose_31  v1 v2 v3 v4 v5 μ Q → VV C 6 (HPW D ac ad knM Ex (vS C)) (vQ C (QcW D ac ad knM (qI Q)) 0 0 (inLay ad knM)) (μ, ()) 31 [(0, .ref (ad 0)), (1, .int v1), (2, .int v2), (3, .int v3), (4, .int v4), (5, .int v5)] [] := by
    intro  v1 v2 v3 v4 v5 μ h
    refine h (fun v1 v2 v3 v4 v5 μ => VV C 6 (HPW D ac ad knM Ex (vS C)) (vQ C (QcW D ac ad knM (qI Q)) 0 0 (inLay ad knM)) (μ, ()) 31 [(0, .ref (ad 0)), (1, .int v1), (2, .int v2), (3, .int v3), (4, .int v4), (5, .int v5)] []) ?_
    clear h; intro v1 v2 v3 v4 v5 μ h
    have h31 : ∀ (v1 : Int32) (v2 : Int32) (v3 : Int32) (v4 : Int32) (v5 : Int32) (μ : WS), (fun v1 v2 v3 v4 v5 (μ : WS) => VV C 6 (HPW D ac ad knM Ex (vS C)) (vQ C (QcW D ac ad knM (qI Q)) 0 0 (inLay ad knM)) (μ, ()) 31 [(0, .ref (ad 0)), (1, .int v1), (2, .int v2), (3, .int v3), (4, .int v4), (5, .int v5)] []) v1 v2 v3 v4 v5 μ → VV C 6 (HPW D ac ad knM Ex (vS C)) (vQ C (QcW D ac ad knM (qI Q)) 0 0 (inLay ad knM)) (μ, ()) 31 [(0, .ref (ad 0)), (1, .int v1), (2, .int v2), (3, .int v3), (4, .int v4), (5, .int v5)] [] := fun _ _ _ _ _ _ h => h
    unfold w_X4_whose_31b at h
    refine vv_iload hC dX4_whose_31 5 rfl ?_
    refine vv_aload_n hC dX4_whose_33 rfl 0 rfl ?_
    refine vv_getf hC hR hK fa4_27 0 lm_0 (fm_13 ad _ _ _) dX4_whose_34 ?_
    refine vv_aload_n hC dX4_whose_37 rfl 0 rfl ?_
    refine vv_getf hC hR hK fa4_250 0 lm_0 (fm_29 ad _ _ _) dX4_whose_38 ?_
    obtain ⟨hin, h⟩ := h
    refine vv_iald hC hR hK 5 lm_5 hin dX4_whose_41 ?_
    refine vv_icmp_ge (tgt := 77) hC dX4_whose_42 rfl (fun c10 => ?_) (fun c10 => ?_)
    · replace h := h.1 c10
      refine vv_iload hC dX4_whose_77 4 rfl ?_
      exact vv_iret hC hM dX4_whose_79 h
    · replace h := h.2 c10
      refine vv_aload_n hC dX4_whose_45 rfl 0 rfl ?_
      refine vv_aload_n hC dX4_whose_46 rfl 0 rfl ?_
      refine vv_iload_n hC dX4_whose_47 rfl 1 rfl ?_
      refine vv_callVi hC hR hK hRo hRm [.int v1] [.ref (ad 0)] (met_X4_rowOf (vL C) D ac ad Ex hLay hEx v1 μ _ h) gw4_392 mf_X4_rowOf rfl lm_0 rfl rfl rfl rfl dX4_whose_48 (fun r12 μ11 h => ?_)
      refine vv_iload hC dX4_whose_51 5 rfl ?_
      refine vv_iload_n hC dX4_whose_53 rfl 2 rfl ?_
      refine vv_iconst hC dX4_whose_54 ic_0 ?_
      refine vv_callVi hC hR hK hRo hRm [.int r12, .int v5, .int v2, .int 0] [] (met_X4_castOf (vL C) D ac ad Ex hLay hEx r12 v5 v2 0 μ11 _ h) gw4_367 mf_X4_castOf rfl lm_0 rfl rfl rfl rfl dX4_whose_55 (fun r14 μ13 h => ?_)
      refine vv_iload_n hC dX4_whose_58 rfl 3 rfl ?_
      refine vv_icmp_ne (tgt := 71) hC dX4_whose_59 rfl (fun c15 => ?_) (fun c15 => ?_)
      · replace h := h.1 c15
        exact L71 _ h31 _ _ _ _ _ _ h
      · replace h := h.2 c15
        refine vv_iload hC dX4_whose_62 4 rfl ?_
        refine vv_iconst hC dX4_whose_64 ic_1 ?_
        refine vv_iload hC dX4_whose_65 5 rfl ?_
        refine vv_ishl hC dX4_whose_67 ?_
        refine vv_ior hC dX4_whose_68 ?_
        refine vv_topi (fun x16 ex16 => ?_)
        replace h := h x16 ex16
        refine vv_istore (lv' := [(4, .int x16), (0, .ref (ad 0)), (1, .int v1), (2, .int v2), (3, .int v3), (5, .int v5)]) hC dX4_whose_69 (by decide) rfl ?_
        refine vv_lv [1, 2, 3, 4, 0, 5] rfl ?_
        exact L71 _ h31 _ _ _ _ _ _ h
  unfold w_X4_whose at h
  refine vv_aload_n hC dX4_whose_0 rfl 0 rfl ?_
  refine vv_iload_n hC dX4_whose_1 rfl 1 rfl ?_
  refine vv_callVi hC hR hK hRo hRm [.int v1] [] (met_X4_isSeal (vL C) D ac ad Ex hLay hEx v1 μ _ h) gw4_383 mf_X4_isSeal rfl lm_0 rfl rfl rfl rfl dX4_whose_2 (fun r2 μ1 h => ?_)
  refine vv_if_eq (tgt := 23) hC dX4_whose_5 rfl (fun c3 => ?_) (fun c3 => ?_)
  · replace h := h.1 c3
    refine vv_iconst hC dX4_whose_23 ic_m1 ?_
    exact vv_iret hC hM dX4_whose_24 h
  · replace h := h.2 c3
    refine vv_iload_n hC dX4_whose_8 rfl 2 rfl ?_
    refine vv_callSi hC hR hK hRo hRm [.int v2] [] (met_X4_isHeat (vL C) D ac ad Ex hLay hEx v2 μ1 _ h) gw4_364 mf_X4_isHeat rfl rfl rfl dX4_whose_9 (fun r5 μ4 h => ?_)
    refine vv_if_eq (tgt := 23) hC dX4_whose_12 rfl (fun c6 => ?_) (fun c6 => ?_)
    · replace h := h.1 c6
      refine vv_iconst hC dX4_whose_23 ic_m1 ?_
      exact vv_iret hC hM dX4_whose_24 h
    · replace h := h.2 c6
      refine vv_aload_n hC dX4_whose_15 rfl 0 rfl ?_
      refine vv_iload_n hC dX4_whose_16 rfl 3 rfl ?_
      refine vv_callVi hC hR hK hRo hRm [.int v3] [] (met_X4_isRow (vL C) D ac ad Ex hLay hEx v3 μ4 _ h) gw4_358 mf_X4_isRow rfl lm_0 rfl rfl rfl rfl dX4_whose_17 (fun r8 μ7 h => ?_)
      refine vv_if_ne (tgt := 25) hC dX4_whose_20 rfl (fun c9 => ?_) (fun c9 => ?_)
      · replace h := h.1 c9
        refine vv_iconst hC dX4_whose_25 ic_0 ?_
        refine vv_istore (lv' := [(4, .int 0), (0, .ref (ad 0)), (1, .int v1), (2, .int v2), (3, .int v3)]) hC dX4_whose_26 (by decide) rfl ?_
        refine vv_iconst hC dX4_whose_28 ic_0 ?_
        refine vv_istore (lv' := [(5, .int 0), (4, .int 0), (0, .ref (ad 0)), (1, .int v1), (2, .int v2), (3, .int v3)]) hC dX4_whose_29 (by decide) rfl ?_
        refine vv_lv [2, 3, 4, 5, 1, 0] rfl ?_
        exact L31  _ _ _ _ _ _ h
      · replace h := h.2 c9
        refine vv_iconst hC dX4_whose_23 ic_m1 ?_
        exact vv_iret hC hM dX4_whose_24 h
def w_X4_made_76 (P25 : Int32 → Int32 → Int32 → Int32 → WS → Prop) (v1 : Int32) (v2 : Int32) (v3 : Int32) (v4 : Int32) (μ : WS) (Q : Int32 → WS → Prop) : Prop := P25 v1 v2 v3 (v4 + 1) μ
def w_X4_made_25b (P25 : Int32 → Int32 → Int32 → Int32 → WS → Prop) (v1 : Int32) (v2 : Int32) (v3 : Int32) (v4 : Int32) (μ : WS) (Q : Int32 → WS → Prop) : Prop := ((μ.1 21 216 ≤ v4) → Q v3 μ) ∧ ((¬ μ.1 21 216 ≤ v4) → (w_X4_rowOf v4 μ (fun r9 μ8 => (w_X4_turnedRow r9 μ8 (fun r11 μ10 => ((¬ v1 &&& r11 = v1) → w_X4_made_76 P25 v1 v2 v3 v4 μ10 Q) ∧ ((v1 &&& r11 = v1) → (w_X4_bitsOf (r11 - v1) μ10 (fun r14 μ13 => ((v2 < r14) → w_X4_made_76 P25 v1 v2 v3 v4 μ13 Q) ∧ ((¬ v2 < r14) → (∀ x16 : Int32, x16 = v3 ||| (1 <<< (v4 &&& 31)) → w_X4_made_76 P25 v1 v2 x16 v4 μ13 Q))))))))))
def w_X4_made_25 (v1 : Int32) (v2 : Int32) (v3 : Int32) (v4 : Int32) (μ : WS) (Q : Int32 → WS → Prop) : Prop := ∀ P25 : Int32 → Int32 → Int32 → Int32 → WS → Prop, (∀ (v1 : Int32) (v2 : Int32) (v3 : Int32) (v4 : Int32) (μ : WS), w_X4_made_25b  P25 v1 v2 v3 v4 μ Q → P25 v1 v2 v3 v4 μ) → P25 v1 v2 v3 v4 μ
def w_X4_made (v1 : Int32) (v2 : Int32) (μ : WS) (Q : Int32 → WS → Prop) : Prop := (w_X4_isRow v1 μ (fun r2 μ1 => ((r2 = 0) → Q (-1) μ1) ∧ ((¬ r2 = 0) → (w_X4_isIn v2 0 12 μ1 (fun r5 μ4 => ((¬ r5 = 0) → w_X4_made_25 v1 v2 0 0 μ4 Q) ∧ ((r5 = 0) → Q (-1) μ4))))))
abbrev rm_X4_made : Room := { frames := 2, cells := 0, slots := 0, locals := 43 }
theorem mf_X4_made : MFact yX4_made 2 rm_X4_made := ⟨by decide +kernel, rfl, rfl⟩
set_option maxHeartbeats 4000000 in
theorem met_X4_made (l : Launch) (D : va_G) (ac : Nat → ClassId) (ad : Nat → Nat) (Ex : Heap → Prop) (hLay : LayOk ad knM) (hEx : ExOk ad knM Ex) (v1 : Int32) (v2 : Int32) (μ : WS) (Q : Int32 → WS → Prop) (h : w_X4_made v1 v2 μ Q) : CMet l yX4_made cX4_made 6 (some .int) rm_X4_made D ac ad knM Ex [.ref (ad 0), .int v1, .int v2] μ (qI Q) := by
  refine vv_met (lv := [(0, .ref (ad 0)), (1, .int v1), (2, .int v2)]) (by decide) hLay hEx (Nat.le_of_ble_eq_true rfl) rfl ⟨rfl, rfl⟩ (fun C hC hK hRm hLl hR hM => ?_)
  subst hLl
  have hRo : RoomOk (HPW D ac ad knM Ex (vS C)) (vR C) := HPW.room
  have L76 : ∀ (P25 : Int32 → Int32 → Int32 → Int32 → WS → Prop) (h25 : ∀ (v1 : Int32) (v2 : Int32) (v3 : Int32) (v4 : Int32) (μ : WS), P25 v1 v2 v3 v4 μ → VV C 6 (HPW D ac ad knM Ex (vS C)) (vQ C (QcW D ac ad knM (qI Q)) 0 0 (inLay ad knM)) (μ, ()) 25 [(0, .ref (ad 0)), (1, .int v1), (2, .int v2), (3, .int v3), (4, .int v4)] []) (v1 : Int32) (v2 : Int32) (v3 : Int32) (v4 : Int32) (μ : WS), w_X4_made_76 P25 v1 v2 v3 v4 μ Q → VV C 6 (HPW D ac ad knM Ex (vS C)) (vQ C (QcW D ac ad knM (qI Q)) 0 0 (inLay ad knM)) (μ, ()) 76 [(0, .ref (ad 0)), (1, .int v1), (2, .int v2), (3, .int v3), (4, .int v4)] [] := by
    intro P25 h25 v1 v2 v3 v4 μ h
    unfold w_X4_made_76 at h
    refine vv_iinc (pl := 4) (v := v4 + 1) (lv' := [(4, .int (v4 + 1)), (0, .ref (ad 0)), (1, .int v1), (2, .int v2), (3, .int v3)]) hC dX4_made_76 rfl rfl (by decide) rfl ?_
    refine vv_goto (tgt := 25) hC dX4_made_79 rfl ?_
    refine vv_lv [1, 2, 3, 4, 0] rfl ?_
    exact h25 _ _ _ _ _ h
  have L25 : ∀ (v1 : Int32) (v2 : Int32) (v3 : Int32) (v4 : Int32) (μ : WS), w_X4_made_25  v1 v2 v3 v4 μ Q → VV C 6 (HPW D ac ad knM Ex (vS C)) (vQ C (QcW D ac ad knM (qI Q)) 0 0 (inLay ad knM)) (μ, ()) 25 [(0, .ref (ad 0)), (1, .int v1), (2, .int v2), (3, .int v3), (4, .int v4)] [] := by
    intro  v1 v2 v3 v4 μ h
    refine h (fun v1 v2 v3 v4 μ => VV C 6 (HPW D ac ad knM Ex (vS C)) (vQ C (QcW D ac ad knM (qI Q)) 0 0 (inLay ad knM)) (μ, ()) 25 [(0, .ref (ad 0)), (1, .int v1), (2, .int v2), (3, .int v3), (4, .int v4)] []) ?_
    clear h; intro v1 v2 v3 v4 μ h
    have h25 : ∀ (v1 : Int32) (v2 : Int32) (v3 : Int32) (v4 : Int32) (μ : WS), (fun v1 v2 v3 v4 (μ : WS) => VV C 6 (HPW D ac ad knM Ex (vS C)) (vQ C (QcW D ac ad knM (qI Q)) 0 0 (inLay ad knM)) (μ, ()) 25 [(0, .ref (ad 0)), (1, .int v1), (2, .int v2), (3, .int v3), (4, .int v4)] []) v1 v2 v3 v4 μ → VV C 6 (HPW D ac ad knM Ex (vS C)) (vQ C (QcW D ac ad knM (qI Q)) 0 0 (inLay ad knM)) (μ, ()) 25 [(0, .ref (ad 0)), (1, .int v1), (2, .int v2), (3, .int v3), (4, .int v4)] [] := fun _ _ _ _ _ h => h
    unfold w_X4_made_25b at h
    refine vv_iload hC dX4_made_25 4 rfl ?_
    refine vv_aload_n hC dX4_made_27 rfl 0 rfl ?_
    refine vv_getf hC hR hK fa4_77 0 lm_0 (fm_40 ad _ _ _) dX4_made_28 ?_
    refine vv_sipush hC dX4_made_31 sp_216 ?_
    refine vv_iald hC hR hK 21 lm_21 vin_216_221 dX4_made_34 ?_
    refine vv_icmp_ge (tgt := 82) hC dX4_made_35 rfl (fun c7 => ?_) (fun c7 => ?_)
    · replace h := h.1 c7
      refine vv_iload_n hC dX4_made_82 rfl 3 rfl ?_
      exact vv_iret hC hM dX4_made_83 h
    · replace h := h.2 c7
      refine vv_aload_n hC dX4_made_38 rfl 0 rfl ?_
      refine vv_aload_n hC dX4_made_39 rfl 0 rfl ?_
      refine vv_iload hC dX4_made_40 4 rfl ?_
      refine vv_callVi hC hR hK hRo hRm [.int v4] [.ref (ad 0)] (met_X4_rowOf (vL C) D ac ad Ex hLay hEx v4 μ _ h) gw4_392 mf_X4_rowOf rfl lm_0 rfl rfl rfl rfl dX4_made_42 (fun r9 μ8 h => ?_)
      refine vv_callVi hC hR hK hRo hRm [.int r9] [] (met_X4_turnedRow (vL C) D ac ad Ex hLay hEx r9 μ8 _ h) gw4_349 mf_X4_turnedRow rfl lm_0 rfl rfl rfl rfl dX4_made_45 (fun r11 μ10 h => ?_)
      refine vv_istore (lv' := [(5, .int r11), (0, .ref (ad 0)), (1, .int v1), (2, .int v2), (3, .int v3), (4, .int v4)]) hC dX4_made_48 (by decide) rfl ?_
      refine vv_iload_n hC dX4_made_50 rfl 2 rfl ?_
      refine vv_iload hC dX4_made_51 0 rfl ?_
      refine vv_iand hC dX4_made_53 ?_
      refine vv_iload_n hC dX4_made_54 rfl 2 rfl ?_
      refine vv_icmp_ne (tgt := 76) hC dX4_made_55 rfl (fun c12 => ?_) (fun c12 => ?_)
      · replace h := h.1 c12
        refine vv_lv [1, 2, 3, 4, 5] rfl ?_
        exact L76 _ h25 _ _ _ _ _ h
      · replace h := h.2 c12
        refine vv_iload hC dX4_made_58 0 rfl ?_
        refine vv_iload_n hC dX4_made_60 rfl 2 rfl ?_
        refine vv_isub hC dX4_made_61 ?_
        refine vv_callSi hC hR hK hRo hRm [.int (r11 - v1)] [] (met_X4_bitsOf (vL C) D ac ad Ex hLay hEx (r11 - v1) μ10 _ h) gw4_352 mf_X4_bitsOf rfl rfl rfl dX4_made_62 (fun r14 μ13 h => ?_)
        refine vv_iload_n hC dX4_made_65 rfl 3 rfl ?_
        refine vv_icmp_gt (tgt := 76) hC dX4_made_66 rfl (fun c15 => ?_) (fun c15 => ?_)
        · replace h := h.1 c15
          refine vv_lv [1, 2, 3, 4, 5] rfl ?_
          exact L76 _ h25 _ _ _ _ _ h
        · replace h := h.2 c15
          refine vv_iload_n hC dX4_made_69 rfl 4 rfl ?_
          refine vv_iconst hC dX4_made_70 ic_1 ?_
          refine vv_iload hC dX4_made_71 5 rfl ?_
          refine vv_ishl hC dX4_made_73 ?_
          refine vv_ior hC dX4_made_74 ?_
          refine vv_topi (fun x16 ex16 => ?_)
          replace h := h x16 ex16
          refine vv_istore_n (lv' := [(3, .int x16), (5, .int r11), (0, .ref (ad 0)), (1, .int v1), (2, .int v2), (4, .int v4)]) hC dX4_made_75 rfl (by decide) rfl ?_
          refine vv_lv [2, 3, 4, 0, 5] rfl ?_
          exact L76 _ h25 _ _ _ _ _ h
  unfold w_X4_made at h
  refine vv_aload_n hC dX4_made_0 rfl 0 rfl ?_
  refine vv_iload_n hC dX4_made_1 rfl 1 rfl ?_
  refine vv_callVi hC hR hK hRo hRm [.int v1] [] (met_X4_isRow (vL C) D ac ad Ex hLay hEx v1 μ _ h) gw4_358 mf_X4_isRow rfl lm_0 rfl rfl rfl rfl dX4_made_2 (fun r2 μ1 h => ?_)
  refine vv_if_eq (tgt := 18) hC dX4_made_5 rfl (fun c3 => ?_) (fun c3 => ?_)
  · replace h := h.1 c3
    refine vv_iconst hC dX4_made_18 ic_m1 ?_
    exact vv_iret hC hM dX4_made_19 h
  · replace h := h.2 c3
    refine vv_iload_n hC dX4_made_8 rfl 2 rfl ?_
    refine vv_iconst hC dX4_made_9 ic_0 ?_
    refine vv_bipush hC dX4_made_10 bp_12 ?_
    refine vv_callSi hC hR hK hRo hRm [.int v2, .int 0, .int 12] [] (met_X4_isIn (vL C) D ac ad Ex hLay hEx v2 0 12 μ1 _ h) gw4_345 mf_X4_isIn rfl rfl rfl dX4_made_12 (fun r5 μ4 h => ?_)
    refine vv_if_ne (tgt := 20) hC dX4_made_15 rfl (fun c6 => ?_) (fun c6 => ?_)
    · replace h := h.1 c6
      refine vv_iconst hC dX4_made_20 ic_0 ?_
      refine vv_istore_n (lv' := [(3, .int 0), (0, .ref (ad 0)), (1, .int v1), (2, .int v2)]) hC dX4_made_21 rfl (by decide) rfl ?_
      refine vv_iconst hC dX4_made_22 ic_0 ?_
      refine vv_istore (lv' := [(4, .int 0), (3, .int 0), (0, .ref (ad 0)), (1, .int v1), (2, .int v2)]) hC dX4_made_23 (by decide) rfl ?_
      refine vv_lv [2, 3, 4, 1, 0] rfl ?_
      exact L25  _ _ _ _ _ h
    · replace h := h.2 c6
      refine vv_iconst hC dX4_made_18 ic_m1 ?_
      exact vv_iret hC hM dX4_made_19 h
def w_X4_apart_42 (s0 : Int32) (s1 : Int32) (μ : WS) (Q : Int32 → WS → Prop) : Prop := (w_X4_bitsOf (s1 ^^^ s0) μ (fun r17 μ16 => Q r17 μ16))
def w_X4_apart (v1 : Int32) (v2 : Int32) (v3 : Int32) (μ : WS) (Q : Int32 → WS → Prop) : Prop := (w_X4_isSeal v1 μ (fun r2 μ1 => ((r2 = 0) → Q (-1) μ1) ∧ ((¬ r2 = 0) → (w_X4_isSeal v2 μ1 (fun r5 μ4 => ((r5 = 0) → Q (-1) μ4) ∧ ((¬ r5 = 0) → (w_X4_rowOf v1 μ4 (fun r8 μ7 => ((v3 = 0) → (w_X4_rowOf v2 μ7 (fun r11 μ10 => w_X4_apart_42 r11 r8 μ10 Q))) ∧ ((¬ v3 = 0) → (w_X4_rowOf v2 μ7 (fun r13 μ12 => (w_X4_turnedRow r13 μ12 (fun r15 μ14 => w_X4_apart_42 r15 r8 μ14 Q)))))))))))))
abbrev rm_X4_apart : Room := { frames := 2, cells := 0, slots := 0, locals := 43 }
theorem mf_X4_apart : MFact yX4_apart 3 rm_X4_apart := ⟨by decide +kernel, rfl, rfl⟩
set_option maxHeartbeats 4000000 in
theorem met_X4_apart (l : Launch) (D : va_G) (ac : Nat → ClassId) (ad : Nat → Nat) (Ex : Heap → Prop) (hLay : LayOk ad knM) (hEx : ExOk ad knM Ex) (v1 : Int32) (v2 : Int32) (v3 : Int32) (μ : WS) (Q : Int32 → WS → Prop) (h : w_X4_apart v1 v2 v3 μ Q) : CMet l yX4_apart cX4_apart 4 (some .int) rm_X4_apart D ac ad knM Ex [.ref (ad 0), .int v1, .int v2, .int v3] μ (qI Q) := by
  refine vv_met (lv := [(0, .ref (ad 0)), (1, .int v1), (2, .int v2), (3, .int v3)]) (by decide) hLay hEx (Nat.le_of_ble_eq_true rfl) rfl ⟨rfl, rfl⟩ (fun C hC hK hRm hLl hR hM => ?_)
  subst hLl
  have hRo : RoomOk (HPW D ac ad knM Ex (vS C)) (vR C) := HPW.room
  have L42 : ∀ (s0 : Int32) (s1 : Int32) (μ : WS), w_X4_apart_42  s0 s1 μ Q → VV C 4 (HPW D ac ad knM Ex (vS C)) (vQ C (QcW D ac ad knM (qI Q)) 0 0 (inLay ad knM)) (μ, ()) 42 [] [.int s0, .int s1] := by
    intro  s0 s1 μ h
    unfold w_X4_apart_42 at h
    refine vv_ixor hC dX4_apart_42 ?_
    refine vv_callSi hC hR hK hRo hRm [.int (s1 ^^^ s0)] [] (met_X4_bitsOf (vL C) D ac ad Ex hLay hEx (s1 ^^^ s0) μ _ h) gw4_352 mf_X4_bitsOf rfl rfl rfl dX4_apart_43 (fun r17 μ16 h => ?_)
    refine vv_goto (tgt := 50) hC dX4_apart_46 rfl ?_
    exact vv_iret hC hM dX4_apart_50 h
  unfold w_X4_apart at h
  refine vv_aload_n hC dX4_apart_0 rfl 0 rfl ?_
  refine vv_iload_n hC dX4_apart_1 rfl 1 rfl ?_
  refine vv_callVi hC hR hK hRo hRm [.int v1] [] (met_X4_isSeal (vL C) D ac ad Ex hLay hEx v1 μ _ h) gw4_383 mf_X4_isSeal rfl lm_0 rfl rfl rfl rfl dX4_apart_2 (fun r2 μ1 h => ?_)
  refine vv_if_eq (tgt := 49) hC dX4_apart_5 rfl (fun c3 => ?_) (fun c3 => ?_)
  · replace h := h.1 c3
    refine vv_iconst hC dX4_apart_49 ic_m1 ?_
    exact vv_iret hC hM dX4_apart_50 h
  · replace h := h.2 c3
    refine vv_aload_n hC dX4_apart_8 rfl 0 rfl ?_
    refine vv_iload_n hC dX4_apart_9 rfl 2 rfl ?_
    refine vv_callVi hC hR hK hRo hRm [.int v2] [] (met_X4_isSeal (vL C) D ac ad Ex hLay hEx v2 μ1 _ h) gw4_383 mf_X4_isSeal rfl lm_0 rfl rfl rfl rfl dX4_apart_10 (fun r5 μ4 h => ?_)
    refine vv_if_eq (tgt := 49) hC dX4_apart_13 rfl (fun c6 => ?_) (fun c6 => ?_)
    · replace h := h.1 c6
      refine vv_iconst hC dX4_apart_49 ic_m1 ?_
      exact vv_iret hC hM dX4_apart_50 h
    · replace h := h.2 c6
      refine vv_aload_n hC dX4_apart_16 rfl 0 rfl ?_
      refine vv_iload_n hC dX4_apart_17 rfl 1 rfl ?_
      refine vv_callVi hC hR hK hRo hRm [.int v1] [] (met_X4_rowOf (vL C) D ac ad Ex hLay hEx v1 μ4 _ h) gw4_392 mf_X4_rowOf rfl lm_0 rfl rfl rfl rfl dX4_apart_18 (fun r8 μ7 h => ?_)
      refine vv_iload_n hC dX4_apart_21 rfl 3 rfl ?_
      refine vv_if_eq (tgt := 37) hC dX4_apart_22 rfl (fun c9 => ?_) (fun c9 => ?_)
      · replace h := h.1 c9
        refine vv_aload_n hC dX4_apart_37 rfl 0 rfl ?_
        refine vv_iload_n hC dX4_apart_38 rfl 2 rfl ?_
        refine vv_callVi hC hR hK hRo hRm [.int v2] [.int r8] (met_X4_rowOf (vL C) D ac ad Ex hLay hEx v2 μ7 _ h) gw4_392 mf_X4_rowOf rfl lm_0 rfl rfl rfl rfl dX4_apart_39 (fun r11 μ10 h => ?_)
        refine vv_lv [] rfl ?_
        exact L42  _ _ _ h
      · replace h := h.2 c9
        refine vv_aload_n hC dX4_apart_25 rfl 0 rfl ?_
        refine vv_aload_n hC dX4_apart_26 rfl 0 rfl ?_
        refine vv_iload_n hC dX4_apart_27 rfl 2 rfl ?_
        refine vv_callVi hC hR hK hRo hRm [.int v2] [.ref (ad 0), .int r8] (met_X4_rowOf (vL C) D ac ad Ex hLay hEx v2 μ7 _ h) gw4_392 mf_X4_rowOf rfl lm_0 rfl rfl rfl rfl dX4_apart_28 (fun r13 μ12 h => ?_)
        refine vv_callVi hC hR hK hRo hRm [.int r13] [.int r8] (met_X4_turnedRow (vL C) D ac ad Ex hLay hEx r13 μ12 _ h) gw4_349 mf_X4_turnedRow rfl lm_0 rfl rfl rfl rfl dX4_apart_31 (fun r15 μ14 h => ?_)
        refine vv_goto (tgt := 42) hC dX4_apart_34 rfl ?_
        refine vv_lv [] rfl ?_
        exact L42  _ _ _ h
def w_X4_heats_65 (P32 : Int32 → Int32 → Int32 → Int32 → Int32 → WS → Prop) (v1 : Int32) (v2 : Int32) (v3 : Int32) (v4 : Int32) (v5 : Int32) (μ : WS) (Q : Int32 → WS → Prop) : Prop := P32 v1 v2 v3 v4 (v5 + 1) μ
def w_X4_heats_32b (P32 : Int32 → Int32 → Int32 → Int32 → Int32 → WS → Prop) (v1 : Int32) (v2 : Int32) (v3 : Int32) (v4 : Int32) (v5 : Int32) (μ : WS) (Q : Int32 → WS → Prop) : Prop := ((9 < v5) → Q v4 μ) ∧ ((¬ 9 < v5) → (w_X4_rowOf v1 μ (fun r12 μ11 => (w_X4_castOf r12 v2 v5 0 μ11 (fun r14 μ13 => ((¬ r14 = v3) → w_X4_heats_65 P32 v1 v2 v3 v4 v5 μ13 Q) ∧ ((r14 = v3) → (∀ x16 : Int32, x16 = v4 ||| (1 <<< (v5 &&& 31)) → w_X4_heats_65 P32 v1 v2 v3 x16 v5 μ13 Q)))))))
def w_X4_heats_32 (v1 : Int32) (v2 : Int32) (v3 : Int32) (v4 : Int32) (v5 : Int32) (μ : WS) (Q : Int32 → WS → Prop) : Prop := ∀ P32 : Int32 → Int32 → Int32 → Int32 → Int32 → WS → Prop, (∀ (v1 : Int32) (v2 : Int32) (v3 : Int32) (v4 : Int32) (v5 : Int32) (μ : WS), w_X4_heats_32b  P32 v1 v2 v3 v4 v5 μ Q → P32 v1 v2 v3 v4 v5 μ) → P32 v1 v2 v3 v4 v5 μ
def w_X4_heats (v1 : Int32) (v2 : Int32) (v3 : Int32) (μ : WS) (Q : Int32 → WS → Prop) : Prop := (w_X4_isSeal v1 μ (fun r2 μ1 => ((r2 = 0) → Q (-1) μ1) ∧ ((¬ r2 = 0) → (w_X4_isHand v2 μ1 (fun r5 μ4 => ((r5 = 0) → Q (-1) μ4) ∧ ((¬ r5 = 0) → (w_X4_isRow v3 μ4 (fun r8 μ7 => ((¬ r8 = 0) → w_X4_heats_32 v1 v2 v3 0 0 μ7 Q) ∧ ((r8 = 0) → Q (-1) μ7)))))))))
abbrev rm_X4_heats : Room := { frames := 3, cells := 0, slots := 0, locals := 74 }
theorem mf_X4_heats : MFact yX4_heats 3 rm_X4_heats := ⟨by decide +kernel, rfl, rfl⟩
set_option maxHeartbeats 4000000 in
theorem met_X4_heats (l : Launch) (D : va_G) (ac : Nat → ClassId) (ad : Nat → Nat) (Ex : Heap → Prop) (hLay : LayOk ad knM) (hEx : ExOk ad knM Ex) (v1 : Int32) (v2 : Int32) (v3 : Int32) (μ : WS) (Q : Int32 → WS → Prop) (h : w_X4_heats v1 v2 v3 μ Q) : CMet l yX4_heats cX4_heats 6 (some .int) rm_X4_heats D ac ad knM Ex [.ref (ad 0), .int v1, .int v2, .int v3] μ (qI Q) := by
  refine vv_met (lv := [(0, .ref (ad 0)), (1, .int v1), (2, .int v2), (3, .int v3)]) (by decide) hLay hEx (Nat.le_of_ble_eq_true rfl) rfl ⟨rfl, rfl⟩ (fun C hC hK hRm hLl hR hM => ?_)
  subst hLl
  have hRo : RoomOk (HPW D ac ad knM Ex (vS C)) (vR C) := HPW.room
  have L65 : ∀ (P32 : Int32 → Int32 → Int32 → Int32 → Int32 → WS → Prop) (h32 : ∀ (v1 : Int32) (v2 : Int32) (v3 : Int32) (v4 : Int32) (v5 : Int32) (μ : WS), P32 v1 v2 v3 v4 v5 μ → VV C 6 (HPW D ac ad knM Ex (vS C)) (vQ C (QcW D ac ad knM (qI Q)) 0 0 (inLay ad knM)) (μ, ()) 32 [(0, .ref (ad 0)), (1, .int v1), (2, .int v2), (3, .int v3), (4, .int v4), (5, .int v5)] []) (v1 : Int32) (v2 : Int32) (v3 : Int32) (v4 : Int32) (v5 : Int32) (μ : WS), w_X4_heats_65 P32 v1 v2 v3 v4 v5 μ Q → VV C 6 (HPW D ac ad knM Ex (vS C)) (vQ C (QcW D ac ad knM (qI Q)) 0 0 (inLay ad knM)) (μ, ()) 65 [(0, .ref (ad 0)), (1, .int v1), (2, .int v2), (3, .int v3), (4, .int v4), (5, .int v5)] [] := by
    intro P32 h32 v1 v2 v3 v4 v5 μ h
    unfold w_X4_heats_65 at h
    refine vv_iinc (pl := 5) (v := v5 + 1) (lv' := [(5, .int (v5 + 1)), (0, .ref (ad 0)), (1, .int v1), (2, .int v2), (3, .int v3), (4, .int v4)]) hC dX4_heats_65 rfl rfl (by decide) rfl ?_
    refine vv_goto (tgt := 32) hC dX4_heats_68 rfl ?_
    refine vv_lv [1, 2, 3, 4, 5, 0] rfl ?_
    exact h32 _ _ _ _ _ _ h
  have L32 : ∀ (v1 : Int32) (v2 : Int32) (v3 : Int32) (v4 : Int32) (v5 : Int32) (μ : WS), w_X4_heats_32  v1 v2 v3 v4 v5 μ Q → VV C 6 (HPW D ac ad knM Ex (vS C)) (vQ C (QcW D ac ad knM (qI Q)) 0 0 (inLay ad knM)) (μ, ()) 32 [(0, .ref (ad 0)), (1, .int v1), (2, .int v2), (3, .int v3), (4, .int v4), (5, .int v5)] [] := by
    intro  v1 v2 v3 v4 v5 μ h
    refine h (fun v1 v2 v3 v4 v5 μ => VV C 6 (HPW D ac ad knM Ex (vS C)) (vQ C (QcW D ac ad knM (qI Q)) 0 0 (inLay ad knM)) (μ, ()) 32 [(0, .ref (ad 0)), (1, .int v1), (2, .int v2), (3, .int v3), (4, .int v4), (5, .int v5)] []) ?_
    clear h; intro v1 v2 v3 v4 v5 μ h
    have h32 : ∀ (v1 : Int32) (v2 : Int32) (v3 : Int32) (v4 : Int32) (v5 : Int32) (μ : WS), (fun v1 v2 v3 v4 v5 (μ : WS) => VV C 6 (HPW D ac ad knM Ex (vS C)) (vQ C (QcW D ac ad knM (qI Q)) 0 0 (inLay ad knM)) (μ, ()) 32 [(0, .ref (ad 0)), (1, .int v1), (2, .int v2), (3, .int v3), (4, .int v4), (5, .int v5)] []) v1 v2 v3 v4 v5 μ → VV C 6 (HPW D ac ad knM Ex (vS C)) (vQ C (QcW D ac ad knM (qI Q)) 0 0 (inLay ad knM)) (μ, ()) 32 [(0, .ref (ad 0)), (1, .int v1), (2, .int v2), (3, .int v3), (4, .int v4), (5, .int v5)] [] := fun _ _ _ _ _ _ h => h
    unfold w_X4_heats_32b at h
    refine vv_iload hC dX4_heats_32 5 rfl ?_
    refine vv_bipush hC dX4_heats_34 bp_9 ?_
    refine vv_icmp_gt (tgt := 71) hC dX4_heats_36 rfl (fun c10 => ?_) (fun c10 => ?_)
    · replace h := h.1 c10
      refine vv_iload hC dX4_heats_71 4 rfl ?_
      exact vv_iret hC hM dX4_heats_73 h
    · replace h := h.2 c10
      refine vv_aload_n hC dX4_heats_39 rfl 0 rfl ?_
      refine vv_aload_n hC dX4_heats_40 rfl 0 rfl ?_
      refine vv_iload_n hC dX4_heats_41 rfl 1 rfl ?_
      refine vv_callVi hC hR hK hRo hRm [.int v1] [.ref (ad 0)] (met_X4_rowOf (vL C) D ac ad Ex hLay hEx v1 μ _ h) gw4_392 mf_X4_rowOf rfl lm_0 rfl rfl rfl rfl dX4_heats_42 (fun r12 μ11 h => ?_)
      refine vv_iload_n hC dX4_heats_45 rfl 2 rfl ?_
      refine vv_iload hC dX4_heats_46 5 rfl ?_
      refine vv_iconst hC dX4_heats_48 ic_0 ?_
      refine vv_callVi hC hR hK hRo hRm [.int r12, .int v2, .int v5, .int 0] [] (met_X4_castOf (vL C) D ac ad Ex hLay hEx r12 v2 v5 0 μ11 _ h) gw4_367 mf_X4_castOf rfl lm_0 rfl rfl rfl rfl dX4_heats_49 (fun r14 μ13 h => ?_)
      refine vv_iload_n hC dX4_heats_52 rfl 3 rfl ?_
      refine vv_icmp_ne (tgt := 65) hC dX4_heats_53 rfl (fun c15 => ?_) (fun c15 => ?_)
      · replace h := h.1 c15
        exact L65 _ h32 _ _ _ _ _ _ h
      · replace h := h.2 c15
        refine vv_iload hC dX4_heats_56 4 rfl ?_
        refine vv_iconst hC dX4_heats_58 ic_1 ?_
        refine vv_iload hC dX4_heats_59 5 rfl ?_
        refine vv_ishl hC dX4_heats_61 ?_
        refine vv_ior hC dX4_heats_62 ?_
        refine vv_topi (fun x16 ex16 => ?_)
        replace h := h x16 ex16
        refine vv_istore (lv' := [(4, .int x16), (0, .ref (ad 0)), (1, .int v1), (2, .int v2), (3, .int v3), (5, .int v5)]) hC dX4_heats_63 (by decide) rfl ?_
        refine vv_lv [1, 2, 3, 4, 0, 5] rfl ?_
        exact L65 _ h32 _ _ _ _ _ _ h
  unfold w_X4_heats at h
  refine vv_aload_n hC dX4_heats_0 rfl 0 rfl ?_
  refine vv_iload_n hC dX4_heats_1 rfl 1 rfl ?_
  refine vv_callVi hC hR hK hRo hRm [.int v1] [] (met_X4_isSeal (vL C) D ac ad Ex hLay hEx v1 μ _ h) gw4_383 mf_X4_isSeal rfl lm_0 rfl rfl rfl rfl dX4_heats_2 (fun r2 μ1 h => ?_)
  refine vv_if_eq (tgt := 24) hC dX4_heats_5 rfl (fun c3 => ?_) (fun c3 => ?_)
  · replace h := h.1 c3
    refine vv_iconst hC dX4_heats_24 ic_m1 ?_
    exact vv_iret hC hM dX4_heats_25 h
  · replace h := h.2 c3
    refine vv_aload_n hC dX4_heats_8 rfl 0 rfl ?_
    refine vv_iload_n hC dX4_heats_9 rfl 2 rfl ?_
    refine vv_callVi hC hR hK hRo hRm [.int v2] [] (met_X4_isHand (vL C) D ac ad Ex hLay hEx v2 μ1 _ h) gw4_361 mf_X4_isHand rfl lm_0 rfl rfl rfl rfl dX4_heats_10 (fun r5 μ4 h => ?_)
    refine vv_if_eq (tgt := 24) hC dX4_heats_13 rfl (fun c6 => ?_) (fun c6 => ?_)
    · replace h := h.1 c6
      refine vv_iconst hC dX4_heats_24 ic_m1 ?_
      exact vv_iret hC hM dX4_heats_25 h
    · replace h := h.2 c6
      refine vv_aload_n hC dX4_heats_16 rfl 0 rfl ?_
      refine vv_iload_n hC dX4_heats_17 rfl 3 rfl ?_
      refine vv_callVi hC hR hK hRo hRm [.int v3] [] (met_X4_isRow (vL C) D ac ad Ex hLay hEx v3 μ4 _ h) gw4_358 mf_X4_isRow rfl lm_0 rfl rfl rfl rfl dX4_heats_18 (fun r8 μ7 h => ?_)
      refine vv_if_ne (tgt := 26) hC dX4_heats_21 rfl (fun c9 => ?_) (fun c9 => ?_)
      · replace h := h.1 c9
        refine vv_iconst hC dX4_heats_26 ic_0 ?_
        refine vv_istore (lv' := [(4, .int 0), (0, .ref (ad 0)), (1, .int v1), (2, .int v2), (3, .int v3)]) hC dX4_heats_27 (by decide) rfl ?_
        refine vv_iconst hC dX4_heats_29 ic_0 ?_
        refine vv_istore (lv' := [(5, .int 0), (4, .int 0), (0, .ref (ad 0)), (1, .int v1), (2, .int v2), (3, .int v3)]) hC dX4_heats_30 (by decide) rfl ?_
        refine vv_lv [2, 3, 4, 5, 1, 0] rfl ?_
        exact L32  _ _ _ _ _ _ h
      · replace h := h.2 c9
        refine vv_iconst hC dX4_heats_24 ic_m1 ?_
        exact vv_iret hC hM dX4_heats_25 h
def w_X4_canCast (v1 : Int32) (v2 : Int32) (v3 : Int32) (μ : WS) (Q : Int32 → WS → Prop) : Prop := (w_X4_isSeal v1 μ (fun r2 μ1 => ((r2 = 0) → Q 0 μ1) ∧ ((¬ r2 = 0) → (w_X4_isHand v2 μ1 (fun r5 μ4 => ((r5 = 0) → Q 0 μ4) ∧ ((¬ r5 = 0) → (w_X4_isHeat v3 μ4 (fun r8 μ7 => ((r8 = 0) → Q 0 μ7) ∧ ((¬ r8 = 0) → Q 1 μ7)))))))))
abbrev rm_X4_canCast : Room := { frames := 2, cells := 0, slots := 0, locals := 43 }
theorem mf_X4_canCast : MFact yX4_canCast 3 rm_X4_canCast := ⟨by decide +kernel, rfl, rfl⟩
set_option maxHeartbeats 4000000 in
theorem met_X4_canCast (l : Launch) (D : va_G) (ac : Nat → ClassId) (ad : Nat → Nat) (Ex : Heap → Prop) (hLay : LayOk ad knM) (hEx : ExOk ad knM Ex) (v1 : Int32) (v2 : Int32) (v3 : Int32) (μ : WS) (Q : Int32 → WS → Prop) (h : w_X4_canCast v1 v2 v3 μ Q) : CMet l yX4_canCast cX4_canCast 4 (some .boolean) rm_X4_canCast D ac ad knM Ex [.ref (ad 0), .int v1, .int v2, .int v3] μ (qI Q) := by
  refine vv_met (lv := [(0, .ref (ad 0)), (1, .int v1), (2, .int v2), (3, .int v3)]) (by decide) hLay hEx (Nat.le_of_ble_eq_true rfl) rfl ⟨rfl, rfl⟩ (fun C hC hK hRm hLl hR hM => ?_)
  subst hLl
  have hRo : RoomOk (HPW D ac ad knM Ex (vS C)) (vR C) := HPW.room
  unfold w_X4_canCast at h
  refine vv_aload_n hC dX4_canCast_0 rfl 0 rfl ?_
  refine vv_iload_n hC dX4_canCast_1 rfl 1 rfl ?_
  refine vv_callVi hC hR hK hRo hRm [.int v1] [] (met_X4_isSeal (vL C) D ac ad Ex hLay hEx v1 μ _ h) gw4_383 mf_X4_isSeal rfl lm_0 rfl rfl rfl rfl dX4_canCast_2 (fun r2 μ1 h => ?_)
  refine vv_if_eq (tgt := 27) hC dX4_canCast_5 rfl (fun c3 => ?_) (fun c3 => ?_)
  · replace h := h.1 c3
    refine vv_iconst hC dX4_canCast_27 ic_0 ?_
    exact vv_zret hC hM dX4_canCast_28 isB_0 h
  · replace h := h.2 c3
    refine vv_aload_n hC dX4_canCast_8 rfl 0 rfl ?_
    refine vv_iload_n hC dX4_canCast_9 rfl 2 rfl ?_
    refine vv_callVi hC hR hK hRo hRm [.int v2] [] (met_X4_isHand (vL C) D ac ad Ex hLay hEx v2 μ1 _ h) gw4_361 mf_X4_isHand rfl lm_0 rfl rfl rfl rfl dX4_canCast_10 (fun r5 μ4 h => ?_)
    refine vv_if_eq (tgt := 27) hC dX4_canCast_13 rfl (fun c6 => ?_) (fun c6 => ?_)
    · replace h := h.1 c6
      refine vv_iconst hC dX4_canCast_27 ic_0 ?_
      exact vv_zret hC hM dX4_canCast_28 isB_0 h
    · replace h := h.2 c6
      refine vv_iload_n hC dX4_canCast_16 rfl 3 rfl ?_
      refine vv_callSi hC hR hK hRo hRm [.int v3] [] (met_X4_isHeat (vL C) D ac ad Ex hLay hEx v3 μ4 _ h) gw4_364 mf_X4_isHeat rfl rfl rfl dX4_canCast_17 (fun r8 μ7 h => ?_)
      refine vv_if_eq (tgt := 27) hC dX4_canCast_20 rfl (fun c9 => ?_) (fun c9 => ?_)
      · replace h := h.1 c9
        refine vv_iconst hC dX4_canCast_27 ic_0 ?_
        exact vv_zret hC hM dX4_canCast_28 isB_0 h
      · replace h := h.2 c9
        refine vv_iconst hC dX4_canCast_23 ic_1 ?_
        refine vv_goto (tgt := 28) hC dX4_canCast_24 rfl ?_
        exact vv_zret hC hM dX4_canCast_28 isB_1 h
def w_X4_luckOf_38 (P6 : Int32 → Int32 → Int32 → Int32 → Int32 → Int32 → WS → Prop) (s0 : Int32) (s1 : Int32) (v1 : Int32) (v2 : Int32) (v3 : Int32) (v4 : Int32) (v6 : Int32) (μ : WS) (Q : Int32 → WS → Prop) : Prop := (∀ x7 : Int32, x7 = s1 + s0 → P6 v1 v2 v3 v4 x7 (v6 + 1) μ)
def w_X4_luckOf_6b (P6 : Int32 → Int32 → Int32 → Int32 → Int32 → Int32 → WS → Prop) (v1 : Int32) (v2 : Int32) (v3 : Int32) (v4 : Int32) (v5 : Int32) (v6 : Int32) (μ : WS) (Q : Int32 → WS → Prop) : Prop := ((100 ≤ v6) → Q v5 μ) ∧ ((¬ 100 ≤ v6) → (w_X4_rowOf v1 μ (fun r3 μ2 => (w_X4_castOf r3 v2 v3 v6 μ2 (fun r5 μ4 => ((¬ r5 = v4) → w_X4_luckOf_38 P6 0 v5 v1 v2 v3 v4 v6 μ4 Q) ∧ ((r5 = v4) → w_X4_luckOf_38 P6 1 v5 v1 v2 v3 v4 v6 μ4 Q))))))
def w_X4_luckOf_6 (v1 : Int32) (v2 : Int32) (v3 : Int32) (v4 : Int32) (v5 : Int32) (v6 : Int32) (μ : WS) (Q : Int32 → WS → Prop) : Prop := ∀ P6 : Int32 → Int32 → Int32 → Int32 → Int32 → Int32 → WS → Prop, (∀ (v1 : Int32) (v2 : Int32) (v3 : Int32) (v4 : Int32) (v5 : Int32) (v6 : Int32) (μ : WS), w_X4_luckOf_6b  P6 v1 v2 v3 v4 v5 v6 μ Q → P6 v1 v2 v3 v4 v5 v6 μ) → P6 v1 v2 v3 v4 v5 v6 μ
def w_X4_luckOf (v1 : Int32) (v2 : Int32) (v3 : Int32) (v4 : Int32) (μ : WS) (Q : Int32 → WS → Prop) : Prop := w_X4_luckOf_6 v1 v2 v3 v4 0 0 μ Q
abbrev rm_X4_luckOf : Room := { frames := 3, cells := 0, slots := 0, locals := 74 }
theorem mf_X4_luckOf : MFact yX4_luckOf 4 rm_X4_luckOf := ⟨by decide +kernel, rfl, rfl⟩
set_option maxHeartbeats 4000000 in
theorem met_X4_luckOf (l : Launch) (D : va_G) (ac : Nat → ClassId) (ad : Nat → Nat) (Ex : Heap → Prop) (hLay : LayOk ad knM) (hEx : ExOk ad knM Ex) (v1 : Int32) (v2 : Int32) (v3 : Int32) (v4 : Int32) (μ : WS) (Q : Int32 → WS → Prop) (h : w_X4_luckOf v1 v2 v3 v4 μ Q) : CMet l yX4_luckOf cX4_luckOf 7 (some .int) rm_X4_luckOf D ac ad knM Ex [.ref (ad 0), .int v1, .int v2, .int v3, .int v4] μ (qI Q) := by
  refine vv_met (lv := [(0, .ref (ad 0)), (1, .int v1), (2, .int v2), (3, .int v3), (4, .int v4)]) (by decide) hLay hEx (Nat.le_of_ble_eq_true rfl) rfl ⟨rfl, rfl⟩ (fun C hC hK hRm hLl hR hM => ?_)
  subst hLl
  have hRo : RoomOk (HPW D ac ad knM Ex (vS C)) (vR C) := HPW.room
  have L38 : ∀ (P6 : Int32 → Int32 → Int32 → Int32 → Int32 → Int32 → WS → Prop) (h6 : ∀ (v1 : Int32) (v2 : Int32) (v3 : Int32) (v4 : Int32) (v5 : Int32) (v6 : Int32) (μ : WS), P6 v1 v2 v3 v4 v5 v6 μ → VV C 7 (HPW D ac ad knM Ex (vS C)) (vQ C (QcW D ac ad knM (qI Q)) 0 0 (inLay ad knM)) (μ, ()) 6 [(0, .ref (ad 0)), (1, .int v1), (2, .int v2), (3, .int v3), (4, .int v4), (5, .int v5), (6, .int v6)] []) (s0 : Int32) (s1 : Int32) (v1 : Int32) (v2 : Int32) (v3 : Int32) (v4 : Int32) (v6 : Int32) (μ : WS), w_X4_luckOf_38 P6 s0 s1 v1 v2 v3 v4 v6 μ Q → VV C 7 (HPW D ac ad knM Ex (vS C)) (vQ C (QcW D ac ad knM (qI Q)) 0 0 (inLay ad knM)) (μ, ()) 38 [(0, .ref (ad 0)), (1, .int v1), (2, .int v2), (3, .int v3), (4, .int v4), (6, .int v6)] [.int s0, .int s1] := by
    intro P6 h6 s0 s1 v1 v2 v3 v4 v6 μ h
    unfold w_X4_luckOf_38 at h
    refine vv_iadd hC dX4_luckOf_38 ?_
    refine vv_topi (fun x7 ex7 => ?_)
    replace h := h x7 ex7
    refine vv_istore (lv' := [(5, .int x7), (0, .ref (ad 0)), (1, .int v1), (2, .int v2), (3, .int v3), (4, .int v4), (6, .int v6)]) hC dX4_luckOf_39 (by decide) rfl ?_
    refine vv_iinc (pl := 6) (v := v6 + 1) (lv' := [(6, .int (v6 + 1)), (5, .int x7), (0, .ref (ad 0)), (1, .int v1), (2, .int v2), (3, .int v3), (4, .int v4)]) hC dX4_luckOf_41 rfl rfl (by decide) rfl ?_
    refine vv_goto (tgt := 6) hC dX4_luckOf_44 rfl ?_
    refine vv_lv [2, 3, 4, 5, 6, 1, 0] rfl ?_
    exact h6 _ _ _ _ _ _ _ h
  have L6 : ∀ (v1 : Int32) (v2 : Int32) (v3 : Int32) (v4 : Int32) (v5 : Int32) (v6 : Int32) (μ : WS), w_X4_luckOf_6  v1 v2 v3 v4 v5 v6 μ Q → VV C 7 (HPW D ac ad knM Ex (vS C)) (vQ C (QcW D ac ad knM (qI Q)) 0 0 (inLay ad knM)) (μ, ()) 6 [(0, .ref (ad 0)), (1, .int v1), (2, .int v2), (3, .int v3), (4, .int v4), (5, .int v5), (6, .int v6)] [] := by
    intro  v1 v2 v3 v4 v5 v6 μ h
    refine h (fun v1 v2 v3 v4 v5 v6 μ => VV C 7 (HPW D ac ad knM Ex (vS C)) (vQ C (QcW D ac ad knM (qI Q)) 0 0 (inLay ad knM)) (μ, ()) 6 [(0, .ref (ad 0)), (1, .int v1), (2, .int v2), (3, .int v3), (4, .int v4), (5, .int v5), (6, .int v6)] []) ?_
    clear h; intro v1 v2 v3 v4 v5 v6 μ h
    have h6 : ∀ (v1 : Int32) (v2 : Int32) (v3 : Int32) (v4 : Int32) (v5 : Int32) (v6 : Int32) (μ : WS), (fun v1 v2 v3 v4 v5 v6 (μ : WS) => VV C 7 (HPW D ac ad knM Ex (vS C)) (vQ C (QcW D ac ad knM (qI Q)) 0 0 (inLay ad knM)) (μ, ()) 6 [(0, .ref (ad 0)), (1, .int v1), (2, .int v2), (3, .int v3), (4, .int v4), (5, .int v5), (6, .int v6)] []) v1 v2 v3 v4 v5 v6 μ → VV C 7 (HPW D ac ad knM Ex (vS C)) (vQ C (QcW D ac ad knM (qI Q)) 0 0 (inLay ad knM)) (μ, ()) 6 [(0, .ref (ad 0)), (1, .int v1), (2, .int v2), (3, .int v3), (4, .int v4), (5, .int v5), (6, .int v6)] [] := fun _ _ _ _ _ _ _ h => h
    unfold w_X4_luckOf_6b at h
    refine vv_iload hC dX4_luckOf_6 6 rfl ?_
    refine vv_bipush hC dX4_luckOf_8 bp_100 ?_
    refine vv_icmp_ge (tgt := 47) hC dX4_luckOf_10 rfl (fun c1 => ?_) (fun c1 => ?_)
    · replace h := h.1 c1
      refine vv_iload hC dX4_luckOf_47 5 rfl ?_
      exact vv_iret hC hM dX4_luckOf_49 h
    · replace h := h.2 c1
      refine vv_iload hC dX4_luckOf_13 5 rfl ?_
      refine vv_aload_n hC dX4_luckOf_15 rfl 0 rfl ?_
      refine vv_aload_n hC dX4_luckOf_16 rfl 0 rfl ?_
      refine vv_iload_n hC dX4_luckOf_17 rfl 1 rfl ?_
      refine vv_callVi hC hR hK hRo hRm [.int v1] [.ref (ad 0), .int v5] (met_X4_rowOf (vL C) D ac ad Ex hLay hEx v1 μ _ h) gw4_392 mf_X4_rowOf rfl lm_0 rfl rfl rfl rfl dX4_luckOf_18 (fun r3 μ2 h => ?_)
      refine vv_iload_n hC dX4_luckOf_21 rfl 2 rfl ?_
      refine vv_iload_n hC dX4_luckOf_22 rfl 3 rfl ?_
      refine vv_iload hC dX4_luckOf_23 6 rfl ?_
      refine vv_callVi hC hR hK hRo hRm [.int r3, .int v2, .int v3, .int v6] [.int v5] (met_X4_castOf (vL C) D ac ad Ex hLay hEx r3 v2 v3 v6 μ2 _ h) gw4_367 mf_X4_castOf rfl lm_0 rfl rfl rfl rfl dX4_luckOf_25 (fun r5 μ4 h => ?_)
      refine vv_iload hC dX4_luckOf_28 4 rfl ?_
      refine vv_icmp_ne (tgt := 37) hC dX4_luckOf_30 rfl (fun c6 => ?_) (fun c6 => ?_)
      · replace h := h.1 c6
        refine vv_iconst hC dX4_luckOf_37 ic_0 ?_
        refine vv_lv [0, 1, 2, 3, 4, 6] rfl ?_
        exact L38 _ h6 _ _ _ _ _ _ _ _ h
      · replace h := h.2 c6
        refine vv_iconst hC dX4_luckOf_33 ic_1 ?_
        refine vv_goto (tgt := 38) hC dX4_luckOf_34 rfl ?_
        refine vv_lv [0, 1, 2, 3, 4, 6] rfl ?_
        exact L38 _ h6 _ _ _ _ _ _ _ _ h
  unfold w_X4_luckOf at h
  refine vv_iconst hC dX4_luckOf_0 ic_0 ?_
  refine vv_istore (lv' := [(5, .int 0), (0, .ref (ad 0)), (1, .int v1), (2, .int v2), (3, .int v3), (4, .int v4)]) hC dX4_luckOf_1 (by decide) rfl ?_
  refine vv_iconst hC dX4_luckOf_3 ic_0 ?_
  refine vv_istore (lv' := [(6, .int 0), (5, .int 0), (0, .ref (ad 0)), (1, .int v1), (2, .int v2), (3, .int v3), (4, .int v4)]) hC dX4_luckOf_4 (by decide) rfl ?_
  refine vv_lv [2, 3, 4, 5, 6, 1, 0] rfl ?_
  exact L6  _ _ _ _ _ _ _ h
def w_X4_luck (v1 : Int32) (v2 : Int32) (v3 : Int32) (v4 : Int32) (μ : WS) (Q : Int32 → WS → Prop) : Prop := (w_X4_canCast v1 v2 v3 μ (fun r2 μ1 => ((r2 = 0) → Q (-1) μ1) ∧ ((¬ r2 = 0) → (w_X4_isRow v4 μ1 (fun r5 μ4 => ((r5 = 0) → Q (-1) μ4) ∧ ((¬ r5 = 0) → (w_X4_luckOf v1 v2 v3 v4 μ4 (fun r8 μ7 => Q r8 μ7))))))))
abbrev rm_X4_luck : Room := { frames := 4, cells := 0, slots := 0, locals := 100 }
theorem mf_X4_luck : MFact yX4_luck 4 rm_X4_luck := ⟨by decide +kernel, rfl, rfl⟩
set_option maxHeartbeats 4000000 in
theorem met_X4_luck (l : Launch) (D : va_G) (ac : Nat → ClassId) (ad : Nat → Nat) (Ex : Heap → Prop) (hLay : LayOk ad knM) (hEx : ExOk ad knM Ex) (v1 : Int32) (v2 : Int32) (v3 : Int32) (v4 : Int32) (μ : WS) (Q : Int32 → WS → Prop) (h : w_X4_luck v1 v2 v3 v4 μ Q) : CMet l yX4_luck cX4_luck 5 (some .int) rm_X4_luck D ac ad knM Ex [.ref (ad 0), .int v1, .int v2, .int v3, .int v4] μ (qI Q) := by
  refine vv_met (lv := [(0, .ref (ad 0)), (1, .int v1), (2, .int v2), (3, .int v3), (4, .int v4)]) (by decide) hLay hEx (Nat.le_of_ble_eq_true rfl) rfl ⟨rfl, rfl⟩ (fun C hC hK hRm hLl hR hM => ?_)
  subst hLl
  have hRo : RoomOk (HPW D ac ad knM Ex (vS C)) (vR C) := HPW.room
  unfold w_X4_luck at h
  refine vv_aload_n hC dX4_luck_0 rfl 0 rfl ?_
  refine vv_iload_n hC dX4_luck_1 rfl 1 rfl ?_
  refine vv_iload_n hC dX4_luck_2 rfl 2 rfl ?_
  refine vv_iload_n hC dX4_luck_3 rfl 3 rfl ?_
  refine vv_callVi hC hR hK hRo hRm [.int v1, .int v2, .int v3] [] (met_X4_canCast (vL C) D ac ad Ex hLay hEx v1 v2 v3 μ _ h) gw4_398 mf_X4_canCast rfl lm_0 rfl rfl rfl rfl dX4_luck_4 (fun r2 μ1 h => ?_)
  refine vv_if_eq (tgt := 31) hC dX4_luck_7 rfl (fun c3 => ?_) (fun c3 => ?_)
  · replace h := h.1 c3
    refine vv_iconst hC dX4_luck_31 ic_m1 ?_
    exact vv_iret hC hM dX4_luck_32 h
  · replace h := h.2 c3
    refine vv_aload_n hC dX4_luck_10 rfl 0 rfl ?_
    refine vv_iload hC dX4_luck_11 4 rfl ?_
    refine vv_callVi hC hR hK hRo hRm [.int v4] [] (met_X4_isRow (vL C) D ac ad Ex hLay hEx v4 μ1 _ h) gw4_358 mf_X4_isRow rfl lm_0 rfl rfl rfl rfl dX4_luck_13 (fun r5 μ4 h => ?_)
    refine vv_if_eq (tgt := 31) hC dX4_luck_16 rfl (fun c6 => ?_) (fun c6 => ?_)
    · replace h := h.1 c6
      refine vv_iconst hC dX4_luck_31 ic_m1 ?_
      exact vv_iret hC hM dX4_luck_32 h
    · replace h := h.2 c6
      refine vv_aload_n hC dX4_luck_19 rfl 0 rfl ?_
      refine vv_iload_n hC dX4_luck_20 rfl 1 rfl ?_
      refine vv_iload_n hC dX4_luck_21 rfl 2 rfl ?_
      refine vv_iload_n hC dX4_luck_22 rfl 3 rfl ?_
      refine vv_iload hC dX4_luck_23 4 rfl ?_
      refine vv_callVi hC hR hK hRo hRm [.int v1, .int v2, .int v3, .int v4] [] (met_X4_luckOf (vL C) D ac ad Ex hLay hEx v1 v2 v3 v4 μ4 _ h) gw4_401 mf_X4_luckOf rfl lm_0 rfl rfl rfl rfl dX4_luck_25 (fun r8 μ7 h => ?_)
      refine vv_goto (tgt := 32) hC dX4_luck_28 rfl ?_
      exact vv_iret hC hM dX4_luck_32 h
def w_X4_likely_162 (P67 : Int32 → Int32 → Int32 → Int32 → WS → Prop) (v4 : Int32) (v5 : Int32) (v6 : Int32) (v7 : Int32) (μ : WS) (Q : Int32 → WS → Prop) : Prop := P67 v4 v5 v6 (v7 + 1) μ
def w_X4_likely_149 (P67 : Int32 → Int32 → Int32 → Int32 → WS → Prop) (v4 : Int32) (v7 : Int32) (v8 : Int32) (μ : WS) (Q : Int32 → WS → Prop) : Prop := (vp_in v7 100 ∧ (∀ x21 : Int32, x21 = μ.1 23 v7.toNatClampNeg → w_X4_likely_162 P67 v4 x21 v8 v7 μ Q))
def w_X4_likely_111 (P67 : Int32 → Int32 → Int32 → Int32 → WS → Prop) (P80 : Int32 → Int32 → Int32 → Int32 → Int32 → Int32 → WS → Prop) (s0 : Int32) (s1 : Int32) (v4 : Int32) (v5 : Int32) (v6 : Int32) (v7 : Int32) (v9 : Int32) (μ : WS) (Q : Int32 → WS → Prop) : Prop := (∀ x20 : Int32, x20 = s1 + s0 → P80 v4 v5 v6 v7 x20 (v9 + 1) μ)
def w_X4_likely_80b (P67 : Int32 → Int32 → Int32 → Int32 → WS → Prop) (P80 : Int32 → Int32 → Int32 → Int32 → Int32 → Int32 → WS → Prop) (v4 : Int32) (v5 : Int32) (v6 : Int32) (v7 : Int32) (v8 : Int32) (v9 : Int32) (μ : WS) (Q : Int32 → WS → Prop) : Prop := ((100 ≤ v9) → ((v8 < v6) → w_X4_likely_162 P67 v4 v5 v6 v7 μ Q) ∧ ((¬ v8 < v6) → ((¬ v8 = v6) → w_X4_likely_149 P67 v4 v7 v8 μ Q) ∧ ((v8 = v6) → (vp_in v7 100 ∧ ((μ.1 23 v7.toNatClampNeg < v5) → w_X4_likely_149 P67 v4 v7 v8 μ Q) ∧ ((¬ μ.1 23 v7.toNatClampNeg < v5) → w_X4_likely_162 P67 v4 v5 v6 v7 μ Q))))) ∧ ((¬ 100 ≤ v9) → (vp_in v9 100 ∧ (vp_in v7 100 ∧ ((¬ μ.1 23 v9.toNatClampNeg = μ.1 23 v7.toNatClampNeg) → w_X4_likely_111 P67 P80 0 v8 v4 v5 v6 v7 v9 μ Q) ∧ ((μ.1 23 v9.toNatClampNeg = μ.1 23 v7.toNatClampNeg) → w_X4_likely_111 P67 P80 1 v8 v4 v5 v6 v7 v9 μ Q))))
def w_X4_likely_80 (P67 : Int32 → Int32 → Int32 → Int32 → WS → Prop) (v4 : Int32) (v5 : Int32) (v6 : Int32) (v7 : Int32) (v8 : Int32) (v9 : Int32) (μ : WS) (Q : Int32 → WS → Prop) : Prop := ∀ P80 : Int32 → Int32 → Int32 → Int32 → Int32 → Int32 → WS → Prop, (∀ (v4 : Int32) (v5 : Int32) (v6 : Int32) (v7 : Int32) (v8 : Int32) (v9 : Int32) (μ : WS), w_X4_likely_80b P67 P80 v4 v5 v6 v7 v8 v9 μ Q → P80 v4 v5 v6 v7 v8 v9 μ) → P80 v4 v5 v6 v7 v8 v9 μ
def w_X4_likely_67b (P67 : Int32 → Int32 → Int32 → Int32 → WS → Prop) (v4 : Int32) (v5 : Int32) (v6 : Int32) (v7 : Int32) (μ : WS) (Q : Int32 → WS → Prop) : Prop := ((100 ≤ v7) → ((¬ v4 = 0) → Q v6 μ) ∧ ((v4 = 0) → Q v5 μ)) ∧ ((¬ 100 ≤ v7) → w_X4_likely_80 P67 v4 v5 v6 v7 0 0 μ Q)
def w_X4_likely_67 (v4 : Int32) (v5 : Int32) (v6 : Int32) (v7 : Int32) (μ : WS) (Q : Int32 → WS → Prop) : Prop := ∀ P67 : Int32 → Int32 → Int32 → Int32 → WS → Prop, (∀ (v4 : Int32) (v5 : Int32) (v6 : Int32) (v7 : Int32) (μ : WS), w_X4_likely_67b  P67 v4 v5 v6 v7 μ Q → P67 v4 v5 v6 v7 μ) → P67 v4 v5 v6 v7 μ
def w_X4_likely_25b (P25 : Int32 → Int32 → Int32 → Int32 → Int32 → WS → Prop) (v1 : Int32) (v2 : Int32) (v3 : Int32) (v4 : Int32) (v5 : Int32) (μ : WS) (Q : Int32 → WS → Prop) : Prop := ((100 ≤ v5) → w_X4_likely_67 v4 (-1) 0 0 μ Q) ∧ ((¬ 100 ≤ v5) → (w_X4_rowOf v1 μ (fun r9 μ8 => (w_X4_castOf r9 v2 v3 v5 μ8 (fun r11 μ10 => (vp_in v5 100 ∧ (∀ μ12 : WS, μ12 = wset μ10 23 v5.toNatClampNeg r11 → P25 v1 v2 v3 v4 (v5 + 1) μ12)))))))
def w_X4_likely_25 (v1 : Int32) (v2 : Int32) (v3 : Int32) (v4 : Int32) (v5 : Int32) (μ : WS) (Q : Int32 → WS → Prop) : Prop := ∀ P25 : Int32 → Int32 → Int32 → Int32 → Int32 → WS → Prop, (∀ (v1 : Int32) (v2 : Int32) (v3 : Int32) (v4 : Int32) (v5 : Int32) (μ : WS), w_X4_likely_25b  P25 v1 v2 v3 v4 v5 μ Q → P25 v1 v2 v3 v4 v5 μ) → P25 v1 v2 v3 v4 v5 μ
def w_X4_likely (v1 : Int32) (v2 : Int32) (v3 : Int32) (v4 : Int32) (μ : WS) (Q : Int32 → WS → Prop) : Prop := (w_X4_canCast v1 v2 v3 μ (fun r2 μ1 => ((r2 = 0) → Q (-1) μ1) ∧ ((¬ r2 = 0) → (w_X4_isIn v4 0 1 μ1 (fun r5 μ4 => ((¬ r5 = 0) → w_X4_likely_25 v1 v2 v3 v4 0 μ4 Q) ∧ ((r5 = 0) → Q (-1) μ4))))))
abbrev rm_X4_likely : Room := { frames := 3, cells := 0, slots := 0, locals := 74 }
theorem mf_X4_likely : MFact yX4_likely 4 rm_X4_likely := ⟨by decide +kernel, rfl, rfl⟩
set_option maxHeartbeats 4000000 in
theorem met_X4_likely (l : Launch) (D : va_G) (ac : Nat → ClassId) (ad : Nat → Nat) (Ex : Heap → Prop) (hLay : LayOk ad knM) (hEx : ExOk ad knM Ex) (v1 : Int32) (v2 : Int32) (v3 : Int32) (v4 : Int32) (μ : WS) (Q : Int32 → WS → Prop) (h : w_X4_likely v1 v2 v3 v4 μ Q) : CMet l yX4_likely cX4_likely 10 (some .int) rm_X4_likely D ac ad knM Ex [.ref (ad 0), .int v1, .int v2, .int v3, .int v4] μ (qI Q) := by
  refine vv_met (lv := [(0, .ref (ad 0)), (1, .int v1), (2, .int v2), (3, .int v3), (4, .int v4)]) (by decide) hLay hEx (Nat.le_of_ble_eq_true rfl) rfl ⟨rfl, rfl⟩ (fun C hC hK hRm hLl hR hM => ?_)
  subst hLl
  have hRo : RoomOk (HPW D ac ad knM Ex (vS C)) (vR C) := HPW.room
  have L162 : ∀ (P67 : Int32 → Int32 → Int32 → Int32 → WS → Prop) (h67 : ∀ (v4 : Int32) (v5 : Int32) (v6 : Int32) (v7 : Int32) (μ : WS), P67 v4 v5 v6 v7 μ → VV C 10 (HPW D ac ad knM Ex (vS C)) (vQ C (QcW D ac ad knM (qI Q)) 0 0 (inLay ad knM)) (μ, ()) 67 [(0, .ref (ad 0)), (4, .int v4), (5, .int v5), (6, .int v6), (7, .int v7)] []) (v4 : Int32) (v5 : Int32) (v6 : Int32) (v7 : Int32) (μ : WS), w_X4_likely_162 P67 v4 v5 v6 v7 μ Q → VV C 10 (HPW D ac ad knM Ex (vS C)) (vQ C (QcW D ac ad knM (qI Q)) 0 0 (inLay ad knM)) (μ, ()) 162 [(0, .ref (ad 0)), (4, .int v4), (5, .int v5), (6, .int v6), (7, .int v7)] [] := by
    intro P67 h67 v4 v5 v6 v7 μ h
    unfold w_X4_likely_162 at h
    refine vv_iinc (pl := 4) (v := v7 + 1) (lv' := [(7, .int (v7 + 1)), (0, .ref (ad 0)), (4, .int v4), (5, .int v5), (6, .int v6)]) hC dX4_likely_162 rfl rfl (by decide) rfl ?_
    refine vv_goto (tgt := 67) hC dX4_likely_165 rfl ?_
    refine vv_lv [1, 2, 3, 4, 0] rfl ?_
    exact h67 _ _ _ _ _ h
  have L149 : ∀ (P67 : Int32 → Int32 → Int32 → Int32 → WS → Prop) (h67 : ∀ (v4 : Int32) (v5 : Int32) (v6 : Int32) (v7 : Int32) (μ : WS), P67 v4 v5 v6 v7 μ → VV C 10 (HPW D ac ad knM Ex (vS C)) (vQ C (QcW D ac ad knM (qI Q)) 0 0 (inLay ad knM)) (μ, ()) 67 [(0, .ref (ad 0)), (4, .int v4), (5, .int v5), (6, .int v6), (7, .int v7)] []) (v4 : Int32) (v7 : Int32) (v8 : Int32) (μ : WS), w_X4_likely_149 P67 v4 v7 v8 μ Q → VV C 10 (HPW D ac ad knM Ex (vS C)) (vQ C (QcW D ac ad knM (qI Q)) 0 0 (inLay ad knM)) (μ, ()) 149 [(0, .ref (ad 0)), (4, .int v4), (7, .int v7), (8, .int v8)] [] := by
    intro P67 h67 v4 v7 v8 μ h
    unfold w_X4_likely_149 at h
    refine vv_iload hC dX4_likely_149 3 rfl ?_
    refine vv_istore (lv' := [(6, .int v8), (0, .ref (ad 0)), (4, .int v4), (7, .int v7), (8, .int v8)]) hC dX4_likely_151 (by decide) rfl ?_
    refine vv_aload_n hC dX4_likely_153 rfl 1 rfl ?_
    refine vv_getf hC hR hK fa4_83 0 lm_0 (fm_44 ad _ _ _) dX4_likely_154 ?_
    refine vv_iload hC dX4_likely_157 3 rfl ?_
    obtain ⟨hin, h⟩ := h
    refine vv_iald hC hR hK 23 lm_23 hin dX4_likely_159 ?_
    refine vv_topi (fun x21 ex21 => ?_)
    replace h := h x21 ex21
    refine vv_istore (lv' := [(5, .int x21), (6, .int v8), (0, .ref (ad 0)), (4, .int v4), (7, .int v7), (8, .int v8)]) hC dX4_likely_160 (by decide) rfl ?_
    refine vv_lv [2, 3, 0, 1, 4] rfl ?_
    exact L162 _ h67 _ _ _ _ _ h
  have L111 : ∀ (P67 : Int32 → Int32 → Int32 → Int32 → WS → Prop) (h67 : ∀ (v4 : Int32) (v5 : Int32) (v6 : Int32) (v7 : Int32) (μ : WS), P67 v4 v5 v6 v7 μ → VV C 10 (HPW D ac ad knM Ex (vS C)) (vQ C (QcW D ac ad knM (qI Q)) 0 0 (inLay ad knM)) (μ, ()) 67 [(0, .ref (ad 0)), (4, .int v4), (5, .int v5), (6, .int v6), (7, .int v7)] []) (P80 : Int32 → Int32 → Int32 → Int32 → Int32 → Int32 → WS → Prop) (h80 : ∀ (v4 : Int32) (v5 : Int32) (v6 : Int32) (v7 : Int32) (v8 : Int32) (v9 : Int32) (μ : WS), P80 v4 v5 v6 v7 v8 v9 μ → VV C 10 (HPW D ac ad knM Ex (vS C)) (vQ C (QcW D ac ad knM (qI Q)) 0 0 (inLay ad knM)) (μ, ()) 80 [(0, .ref (ad 0)), (4, .int v4), (5, .int v5), (6, .int v6), (7, .int v7), (8, .int v8), (9, .int v9)] []) (s0 : Int32) (s1 : Int32) (v4 : Int32) (v5 : Int32) (v6 : Int32) (v7 : Int32) (v9 : Int32) (μ : WS), w_X4_likely_111 P67 P80 s0 s1 v4 v5 v6 v7 v9 μ Q → VV C 10 (HPW D ac ad knM Ex (vS C)) (vQ C (QcW D ac ad knM (qI Q)) 0 0 (inLay ad knM)) (μ, ()) 111 [(0, .ref (ad 0)), (4, .int v4), (5, .int v5), (6, .int v6), (7, .int v7), (9, .int v9)] [.int s0, .int s1] := by
    intro P67 h67 P80 h80 s0 s1 v4 v5 v6 v7 v9 μ h
    unfold w_X4_likely_111 at h
    refine vv_iadd hC dX4_likely_111 ?_
    refine vv_topi (fun x20 ex20 => ?_)
    replace h := h x20 ex20
    refine vv_istore (lv' := [(8, .int x20), (0, .ref (ad 0)), (4, .int v4), (5, .int v5), (6, .int v6), (7, .int v7), (9, .int v9)]) hC dX4_likely_112 (by decide) rfl ?_
    refine vv_iinc (pl := 6) (v := v9 + 1) (lv' := [(9, .int (v9 + 1)), (8, .int x20), (0, .ref (ad 0)), (4, .int v4), (5, .int v5), (6, .int v6), (7, .int v7)]) hC dX4_likely_114 rfl rfl (by decide) rfl ?_
    refine vv_goto (tgt := 80) hC dX4_likely_117 rfl ?_
    refine vv_lv [2, 3, 4, 5, 6, 1, 0] rfl ?_
    exact h80 _ _ _ _ _ _ _ h
  have L80 : ∀ (P67 : Int32 → Int32 → Int32 → Int32 → WS → Prop) (h67 : ∀ (v4 : Int32) (v5 : Int32) (v6 : Int32) (v7 : Int32) (μ : WS), P67 v4 v5 v6 v7 μ → VV C 10 (HPW D ac ad knM Ex (vS C)) (vQ C (QcW D ac ad knM (qI Q)) 0 0 (inLay ad knM)) (μ, ()) 67 [(0, .ref (ad 0)), (4, .int v4), (5, .int v5), (6, .int v6), (7, .int v7)] []) (v4 : Int32) (v5 : Int32) (v6 : Int32) (v7 : Int32) (v8 : Int32) (v9 : Int32) (μ : WS), w_X4_likely_80 P67 v4 v5 v6 v7 v8 v9 μ Q → VV C 10 (HPW D ac ad knM Ex (vS C)) (vQ C (QcW D ac ad knM (qI Q)) 0 0 (inLay ad knM)) (μ, ()) 80 [(0, .ref (ad 0)), (4, .int v4), (5, .int v5), (6, .int v6), (7, .int v7), (8, .int v8), (9, .int v9)] [] := by
    intro P67 h67 v4 v5 v6 v7 v8 v9 μ h
    refine h (fun v4 v5 v6 v7 v8 v9 μ => VV C 10 (HPW D ac ad knM Ex (vS C)) (vQ C (QcW D ac ad knM (qI Q)) 0 0 (inLay ad knM)) (μ, ()) 80 [(0, .ref (ad 0)), (4, .int v4), (5, .int v5), (6, .int v6), (7, .int v7), (8, .int v8), (9, .int v9)] []) ?_
    clear h; intro v4 v5 v6 v7 v8 v9 μ h
    have h80 : ∀ (v4 : Int32) (v5 : Int32) (v6 : Int32) (v7 : Int32) (v8 : Int32) (v9 : Int32) (μ : WS), (fun v4 v5 v6 v7 v8 v9 (μ : WS) => VV C 10 (HPW D ac ad knM Ex (vS C)) (vQ C (QcW D ac ad knM (qI Q)) 0 0 (inLay ad knM)) (μ, ()) 80 [(0, .ref (ad 0)), (4, .int v4), (5, .int v5), (6, .int v6), (7, .int v7), (8, .int v8), (9, .int v9)] []) v4 v5 v6 v7 v8 v9 μ → VV C 10 (HPW D ac ad knM Ex (vS C)) (vQ C (QcW D ac ad knM (qI Q)) 0 0 (inLay ad knM)) (μ, ()) 80 [(0, .ref (ad 0)), (4, .int v4), (5, .int v5), (6, .int v6), (7, .int v7), (8, .int v8), (9, .int v9)] [] := fun _ _ _ _ _ _ _ h => h
    unfold w_X4_likely_80b at h
    refine vv_iload hC dX4_likely_80 6 rfl ?_
    refine vv_bipush hC dX4_likely_82 bp_100 ?_
    refine vv_icmp_ge (tgt := 120) hC dX4_likely_84 rfl (fun c15 => ?_) (fun c15 => ?_)
    · replace h := h.1 c15
      refine vv_iload hC dX4_likely_120 5 rfl ?_
      refine vv_iload hC dX4_likely_122 3 rfl ?_
      refine vv_icmp_lt (tgt := 162) hC dX4_likely_124 rfl (fun c16 => ?_) (fun c16 => ?_)
      · replace h := h.1 c16
        refine vv_lv [0, 1, 2, 3, 4] rfl ?_
        exact L162 _ h67 _ _ _ _ _ h
      · replace h := h.2 c16
        refine vv_iload hC dX4_likely_127 5 rfl ?_
        refine vv_iload hC dX4_likely_129 3 rfl ?_
        refine vv_icmp_ne (tgt := 149) hC dX4_likely_131 rfl (fun c17 => ?_) (fun c17 => ?_)
        · replace h := h.1 c17
          refine vv_lv [0, 1, 4, 5] rfl ?_
          exact L149 _ h67 _ _ _ _ h
        · replace h := h.2 c17
          refine vv_aload_n hC dX4_likely_134 rfl 0 rfl ?_
          refine vv_getf hC hR hK fa4_83 0 lm_0 (fm_44 ad _ _ _) dX4_likely_135 ?_
          refine vv_iload hC dX4_likely_138 4 rfl ?_
          obtain ⟨hin, h⟩ := h
          refine vv_iald hC hR hK 23 lm_23 hin dX4_likely_140 ?_
          refine vv_iload hC dX4_likely_141 2 rfl ?_
          refine vv_icmp_lt (tgt := 149) hC dX4_likely_143 rfl (fun c18 => ?_) (fun c18 => ?_)
          · replace h := h.1 c18
            refine vv_lv [0, 1, 4, 5] rfl ?_
            exact L149 _ h67 _ _ _ _ h
          · replace h := h.2 c18
            refine vv_goto (tgt := 162) hC dX4_likely_146 rfl ?_
            refine vv_lv [0, 1, 2, 3, 4] rfl ?_
            exact L162 _ h67 _ _ _ _ _ h
    · replace h := h.2 c15
      refine vv_iload hC dX4_likely_87 5 rfl ?_
      refine vv_aload_n hC dX4_likely_89 rfl 0 rfl ?_
      refine vv_getf hC hR hK fa4_83 0 lm_0 (fm_44 ad _ _ _) dX4_likely_90 ?_
      refine vv_iload hC dX4_likely_93 6 rfl ?_
      obtain ⟨hin, h⟩ := h
      refine vv_iald hC hR hK 23 lm_23 hin dX4_likely_95 ?_
      refine vv_aload_n hC dX4_likely_96 rfl 0 rfl ?_
      refine vv_getf hC hR hK fa4_83 0 lm_0 (fm_44 ad _ _ _) dX4_likely_97 ?_
      refine vv_iload hC dX4_likely_100 4 rfl ?_
      obtain ⟨hin, h⟩ := h
      refine vv_iald hC hR hK 23 lm_23 hin dX4_likely_102 ?_
      refine vv_icmp_ne (tgt := 110) hC dX4_likely_103 rfl (fun c19 => ?_) (fun c19 => ?_)
      · replace h := h.1 c19
        refine vv_iconst hC dX4_likely_110 ic_0 ?_
        refine vv_lv [0, 1, 2, 3, 4, 6] rfl ?_
        exact L111 _ h67 _ h80 _ _ _ _ _ _ _ _ h
      · replace h := h.2 c19
        refine vv_iconst hC dX4_likely_106 ic_1 ?_
        refine vv_goto (tgt := 111) hC dX4_likely_107 rfl ?_
        refine vv_lv [0, 1, 2, 3, 4, 6] rfl ?_
        exact L111 _ h67 _ h80 _ _ _ _ _ _ _ _ h
  have L67 : ∀ (v4 : Int32) (v5 : Int32) (v6 : Int32) (v7 : Int32) (μ : WS), w_X4_likely_67  v4 v5 v6 v7 μ Q → VV C 10 (HPW D ac ad knM Ex (vS C)) (vQ C (QcW D ac ad knM (qI Q)) 0 0 (inLay ad knM)) (μ, ()) 67 [(0, .ref (ad 0)), (4, .int v4), (5, .int v5), (6, .int v6), (7, .int v7)] [] := by
    intro  v4 v5 v6 v7 μ h
    refine h (fun v4 v5 v6 v7 μ => VV C 10 (HPW D ac ad knM Ex (vS C)) (vQ C (QcW D ac ad knM (qI Q)) 0 0 (inLay ad knM)) (μ, ()) 67 [(0, .ref (ad 0)), (4, .int v4), (5, .int v5), (6, .int v6), (7, .int v7)] []) ?_
    clear h; intro v4 v5 v6 v7 μ h
    have h67 : ∀ (v4 : Int32) (v5 : Int32) (v6 : Int32) (v7 : Int32) (μ : WS), (fun v4 v5 v6 v7 (μ : WS) => VV C 10 (HPW D ac ad knM Ex (vS C)) (vQ C (QcW D ac ad knM (qI Q)) 0 0 (inLay ad knM)) (μ, ()) 67 [(0, .ref (ad 0)), (4, .int v4), (5, .int v5), (6, .int v6), (7, .int v7)] []) v4 v5 v6 v7 μ → VV C 10 (HPW D ac ad knM Ex (vS C)) (vQ C (QcW D ac ad knM (qI Q)) 0 0 (inLay ad knM)) (μ, ()) 67 [(0, .ref (ad 0)), (4, .int v4), (5, .int v5), (6, .int v6), (7, .int v7)] [] := fun _ _ _ _ _ h => h
    unfold w_X4_likely_67b at h
    refine vv_iload hC dX4_likely_67 4 rfl ?_
    refine vv_bipush hC dX4_likely_69 bp_100 ?_
    refine vv_icmp_ge (tgt := 168) hC dX4_likely_71 rfl (fun c13 => ?_) (fun c13 => ?_)
    · replace h := h.1 c13
      refine vv_iload hC dX4_likely_168 1 rfl ?_
      refine vv_if_ne (tgt := 178) hC dX4_likely_170 rfl (fun c14 => ?_) (fun c14 => ?_)
      · replace h := h.1 c14
        refine vv_iload hC dX4_likely_178 3 rfl ?_
        exact vv_iret hC hM dX4_likely_180 h
      · replace h := h.2 c14
        refine vv_iload hC dX4_likely_173 2 rfl ?_
        refine vv_goto (tgt := 180) hC dX4_likely_175 rfl ?_
        exact vv_iret hC hM dX4_likely_180 h
    · replace h := h.2 c13
      refine vv_iconst hC dX4_likely_74 ic_0 ?_
      refine vv_istore (lv' := [(8, .int 0), (0, .ref (ad 0)), (4, .int v4), (5, .int v5), (6, .int v6), (7, .int v7)]) hC dX4_likely_75 (by decide) rfl ?_
      refine vv_iconst hC dX4_likely_77 ic_0 ?_
      refine vv_istore (lv' := [(9, .int 0), (8, .int 0), (0, .ref (ad 0)), (4, .int v4), (5, .int v5), (6, .int v6), (7, .int v7)]) hC dX4_likely_78 (by decide) rfl ?_
      refine vv_lv [2, 3, 4, 5, 6, 1, 0] rfl ?_
      exact L80 _ h67 _ _ _ _ _ _ _ h
  have L25 : ∀ (v1 : Int32) (v2 : Int32) (v3 : Int32) (v4 : Int32) (v5 : Int32) (μ : WS), w_X4_likely_25  v1 v2 v3 v4 v5 μ Q → VV C 10 (HPW D ac ad knM Ex (vS C)) (vQ C (QcW D ac ad knM (qI Q)) 0 0 (inLay ad knM)) (μ, ()) 25 [(0, .ref (ad 0)), (1, .int v1), (2, .int v2), (3, .int v3), (4, .int v4), (5, .int v5)] [] := by
    intro  v1 v2 v3 v4 v5 μ h
    refine h (fun v1 v2 v3 v4 v5 μ => VV C 10 (HPW D ac ad knM Ex (vS C)) (vQ C (QcW D ac ad knM (qI Q)) 0 0 (inLay ad knM)) (μ, ()) 25 [(0, .ref (ad 0)), (1, .int v1), (2, .int v2), (3, .int v3), (4, .int v4), (5, .int v5)] []) ?_
    clear h; intro v1 v2 v3 v4 v5 μ h
    have h25 : ∀ (v1 : Int32) (v2 : Int32) (v3 : Int32) (v4 : Int32) (v5 : Int32) (μ : WS), (fun v1 v2 v3 v4 v5 (μ : WS) => VV C 10 (HPW D ac ad knM Ex (vS C)) (vQ C (QcW D ac ad knM (qI Q)) 0 0 (inLay ad knM)) (μ, ()) 25 [(0, .ref (ad 0)), (1, .int v1), (2, .int v2), (3, .int v3), (4, .int v4), (5, .int v5)] []) v1 v2 v3 v4 v5 μ → VV C 10 (HPW D ac ad knM Ex (vS C)) (vQ C (QcW D ac ad knM (qI Q)) 0 0 (inLay ad knM)) (μ, ()) 25 [(0, .ref (ad 0)), (1, .int v1), (2, .int v2), (3, .int v3), (4, .int v4), (5, .int v5)] [] := fun _ _ _ _ _ _ h => h
    unfold w_X4_likely_25b at h
    refine vv_iload hC dX4_likely_25 5 rfl ?_
    refine vv_bipush hC dX4_likely_27 bp_100 ?_
    refine vv_icmp_ge (tgt := 58) hC dX4_likely_29 rfl (fun c7 => ?_) (fun c7 => ?_)
    · replace h := h.1 c7
      refine vv_iconst hC dX4_likely_58 ic_m1 ?_
      refine vv_istore (lv' := [(5, .int (-1)), (0, .ref (ad 0)), (1, .int v1), (2, .int v2), (3, .int v3), (4, .int v4)]) hC dX4_likely_59 (by decide) rfl ?_
      refine vv_iconst hC dX4_likely_61 ic_0 ?_
      refine vv_istore (lv' := [(6, .int 0), (5, .int (-1)), (0, .ref (ad 0)), (1, .int v1), (2, .int v2), (3, .int v3), (4, .int v4)]) hC dX4_likely_62 (by decide) rfl ?_
      refine vv_iconst hC dX4_likely_64 ic_0 ?_
      refine vv_istore (lv' := [(7, .int 0), (6, .int 0), (5, .int (-1)), (0, .ref (ad 0)), (1, .int v1), (2, .int v2), (3, .int v3), (4, .int v4)]) hC dX4_likely_65 (by decide) rfl ?_
      refine vv_lv [3, 7, 2, 1, 0] rfl ?_
      exact L67  _ _ _ _ _ h
    · replace h := h.2 c7
      refine vv_aload_n hC dX4_likely_32 rfl 0 rfl ?_
      refine vv_getf hC hR hK fa4_83 0 lm_0 (fm_44 ad _ _ _) dX4_likely_33 ?_
      refine vv_iload hC dX4_likely_36 5 rfl ?_
      refine vv_aload_n hC dX4_likely_38 rfl 0 rfl ?_
      refine vv_aload_n hC dX4_likely_39 rfl 0 rfl ?_
      refine vv_iload_n hC dX4_likely_40 rfl 1 rfl ?_
      refine vv_callVi hC hR hK hRo hRm [.int v1] [.ref (ad 0), .int v5, .ref (ad 23)] (met_X4_rowOf (vL C) D ac ad Ex hLay hEx v1 μ _ h) gw4_392 mf_X4_rowOf rfl lm_0 rfl rfl rfl rfl dX4_likely_41 (fun r9 μ8 h => ?_)
      refine vv_iload_n hC dX4_likely_44 rfl 2 rfl ?_
      refine vv_iload_n hC dX4_likely_45 rfl 3 rfl ?_
      refine vv_iload hC dX4_likely_46 5 rfl ?_
      refine vv_callVi hC hR hK hRo hRm [.int r9, .int v2, .int v3, .int v5] [.int v5, .ref (ad 23)] (met_X4_castOf (vL C) D ac ad Ex hLay hEx r9 v2 v3 v5 μ8 _ h) gw4_367 mf_X4_castOf rfl lm_0 rfl rfl rfl rfl dX4_likely_48 (fun r11 μ10 h => ?_)
      obtain ⟨hin, h⟩ := h
      refine vv_iast hC hR hK 23 lm_23 hin dX4_likely_51 ?_
      refine vv_st (fun y e => ?_)
      obtain ⟨μ12, _⟩ := y
      have eμ12 := congrArg Prod.fst e
      clear e
      replace h := h μ12 eμ12
      refine vv_iinc (pl := 5) (v := v5 + 1) (lv' := [(5, .int (v5 + 1)), (0, .ref (ad 0)), (1, .int v1), (2, .int v2), (3, .int v3), (4, .int v4)]) hC dX4_likely_52 rfl rfl (by decide) rfl ?_
      refine vv_goto (tgt := 25) hC dX4_likely_55 rfl ?_
      refine vv_lv [1, 2, 3, 4, 5, 0] rfl ?_
      exact h25 _ _ _ _ _ _ h
  unfold w_X4_likely at h
  refine vv_aload_n hC dX4_likely_0 rfl 0 rfl ?_
  refine vv_iload_n hC dX4_likely_1 rfl 1 rfl ?_
  refine vv_iload_n hC dX4_likely_2 rfl 2 rfl ?_
  refine vv_iload_n hC dX4_likely_3 rfl 3 rfl ?_
  refine vv_callVi hC hR hK hRo hRm [.int v1, .int v2, .int v3] [] (met_X4_canCast (vL C) D ac ad Ex hLay hEx v1 v2 v3 μ _ h) gw4_398 mf_X4_canCast rfl lm_0 rfl rfl rfl rfl dX4_likely_4 (fun r2 μ1 h => ?_)
  refine vv_if_eq (tgt := 20) hC dX4_likely_7 rfl (fun c3 => ?_) (fun c3 => ?_)
  · replace h := h.1 c3
    refine vv_iconst hC dX4_likely_20 ic_m1 ?_
    exact vv_iret hC hM dX4_likely_21 h
  · replace h := h.2 c3
    refine vv_iload hC dX4_likely_10 4 rfl ?_
    refine vv_iconst hC dX4_likely_12 ic_0 ?_
    refine vv_iconst hC dX4_likely_13 ic_1 ?_
    refine vv_callSi hC hR hK hRo hRm [.int v4, .int 0, .int 1] [] (met_X4_isIn (vL C) D ac ad Ex hLay hEx v4 0 1 μ1 _ h) gw4_345 mf_X4_isIn rfl rfl rfl dX4_likely_14 (fun r5 μ4 h => ?_)
    refine vv_if_ne (tgt := 22) hC dX4_likely_17 rfl (fun c6 => ?_) (fun c6 => ?_)
    · replace h := h.1 c6
      refine vv_iconst hC dX4_likely_22 ic_0 ?_
      refine vv_istore (lv' := [(5, .int 0), (0, .ref (ad 0)), (1, .int v1), (2, .int v2), (3, .int v3), (4, .int v4)]) hC dX4_likely_23 (by decide) rfl ?_
      refine vv_lv [1, 2, 3, 4, 5, 0] rfl ?_
      exact L25  _ _ _ _ _ _ h
    · replace h := h.2 c6
      refine vv_iconst hC dX4_likely_20 ic_m1 ?_
      exact vv_iret hC hM dX4_likely_21 h
