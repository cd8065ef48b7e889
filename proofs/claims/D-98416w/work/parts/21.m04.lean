set_option maxRecDepth 100000
def w_X4_end (v1 : Int32) (μ : WS) (Q : Int32 → WS → Prop) : Prop := ((v1 < 0) → Q (-1) μ) ∧ ((¬ v1 < 0) → ((v1 ≤ μ.1 0 2) → (∀ μ3 : WS, μ3 = wset μ 0 2 v1 → Q v1 μ3)) ∧ ((¬ v1 ≤ μ.1 0 2) → Q (-1) μ))
abbrev rm_X4_end : Room := { frames := 0, cells := 0, slots := 0, locals := 0 }
theorem mf_X4_end : MFact yX4_end 1 rm_X4_end := ⟨by decide +kernel, rfl, rfl⟩
set_option maxHeartbeats 4000000 in
theorem met_X4_end (l : Launch) (D : va_G) (ac : Nat → ClassId) (ad : Nat → Nat) (Ex : Heap → Prop) (hLay : LayOk ad knM) (hEx : ExOk ad knM Ex) (v1 : Int32) (μ : WS) (Q : Int32 → WS → Prop) (h : w_X4_end v1 μ Q) : CMet l yX4_end cX4_end 2 (some .int) rm_X4_end D ac ad knM Ex [.ref (ad 0), .int v1] μ (qI Q) := by
  refine vv_met (lv := [(0, .ref (ad 0)), (1, .int v1)]) (by decide) hLay hEx (Nat.le_of_ble_eq_true rfl) rfl ⟨rfl, rfl⟩ (fun C hC hK hRm hLl hR hM => ?_)
  subst hLl
  have hRo : RoomOk (HPW D ac ad knM Ex (vS C)) (vR C) := HPW.room
  unfold w_X4_end at h
  refine vv_iload_n hC dX4_end_0 rfl 1 rfl ?_
  refine vv_if_lt (tgt := 12) hC dX4_end_1 rfl (fun c1 => ?_) (fun c1 => ?_)
  · replace h := h.1 c1
    refine vv_iconst hC dX4_end_12 ic_m1 ?_
    exact vv_iret hC hM dX4_end_13 h
  · replace h := h.2 c1
    refine vv_iload_n hC dX4_end_4 rfl 1 rfl ?_
    refine vv_aload_n hC dX4_end_5 rfl 0 rfl ?_
    refine vv_getf hC hR hK fa4_247 0 lm_0 (fm_2 ad _ _ _) dX4_end_6 ?_
    refine vv_icmp_le (tgt := 14) hC dX4_end_9 rfl (fun c2 => ?_) (fun c2 => ?_)
    · replace h := h.1 c2
      refine vv_aload_n hC dX4_end_14 rfl 0 rfl ?_
      refine vv_iload_n hC dX4_end_15 rfl 1 rfl ?_
      refine vv_puti hC hR hK fa4_247 0 lm_0 fn_2 rfl rfl dX4_end_16 ?_
      refine vv_st (fun y e => ?_)
      obtain ⟨μ3, _⟩ := y
      have eμ3 := congrArg Prod.fst e
      clear e
      replace h := h μ3 eμ3
      refine vv_iload_n hC dX4_end_19 rfl 1 rfl ?_
      exact vv_iret hC hM dX4_end_20 h
    · replace h := h.2 c2
      refine vv_iconst hC dX4_end_12 ic_m1 ?_
      exact vv_iret hC hM dX4_end_13 h
