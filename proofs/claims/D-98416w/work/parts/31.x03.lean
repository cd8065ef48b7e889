set_option maxRecDepth 100000
theorem xbp_7 : (Int8.ofInt 7).toInt32 = 7 := by decide
theorem xbp_10 : (Int8.ofInt 10).toInt32 = 10 := by decide
theorem xvin_4_5 : vp_in 4 5 := by unfold vp_in; decide
theorem fxX0_286_X0 : FAcc RX0 286 0 31 7 .int false := ⟨RX0, TX0, tyX0, rfl, by decide, in_X0, q338, tyX0_ok, nmX0, rfl, rfl⟩
theorem fxX0_321_X0 : FAcc RX0 321 0 31 24 .int false := ⟨RX0, TX0, tyX0, rfl, by decide, in_X0, q355, tyX0_ok, nmX0, rfl, rfl⟩
theorem fxX0_327_X12 : FAcc RX0 327 12 4 2 .int true := ⟨RX12, TX12, tyX12, rfl, by decide, in_X12, q1400, tyX12_ok, nmX12, rfl, rfl⟩
theorem fxX0_332_X0 : FAcc RX0 332 0 31 25 .int false := ⟨RX0, TX0, tyX0, rfl, by decide, in_X0, q356, tyX0_ok, nmX0, rfl, rfl⟩
theorem fxX0_335_X0 : FAcc RX0 335 0 31 26 .int false := ⟨RX0, TX0, tyX0, rfl, by decide, in_X0, q357, tyX0_ok, nmX0, rfl, rfl⟩
theorem fxX0_362_X12 : FAcc RX0 362 12 4 3 .boolean true := ⟨RX12, TX12, tyX12, rfl, by decide, in_X12, q1402, tyX12_ok, nmX12, rfl, rfl⟩
theorem fxX0_370_X14 : FAcc RX0 370 14 5 2 .int true := ⟨RX14, TX14, tyX14, rfl, by decide, in_X14, q1452, tyX14_ok, nmX14, rfl, rfl⟩
theorem fxX0_373_X14 : FAcc RX0 373 14 5 4 .boolean true := ⟨RX14, TX14, tyX14, rfl, by decide, in_X14, q1456, tyX14_ok, nmX14, rfl, rfl⟩
theorem fxX0_376_X14 : FAcc RX0 376 14 5 3 .int true := ⟨RX14, TX14, tyX14, rfl, by decide, in_X14, q1454, tyX14_ok, nmX14, rfl, rfl⟩
theorem fxX0_74_X0 : FAcc RX0 74 0 31 20 (.object "java/util/ArrayList") true := ⟨RX0, TX0, tyX0, rfl, by decide, in_X0, q351, tyX0_ok, nmX0, rfl, rfl⟩
theorem fxX0_80_X0 : FAcc RX0 80 0 31 21 (.array (.object "SealCasts$Sample")) true := ⟨RX0, TX0, tyX0, rfl, by decide, in_X0, q352, tyX0_ok, nmX0, rfl, rfl⟩
theorem fxX0_84_X0 : FAcc RX0 84 0 31 22 (.array .int) true := ⟨RX0, TX0, tyX0, rfl, by decide, in_X0, q353, tyX0_ok, nmX0, rfl, rfl⟩
theorem fxX0_87_X0 : FAcc RX0 87 0 31 23 (.array .int) true := ⟨RX0, TX0, tyX0, rfl, by decide, in_X0, q354, tyX0_ok, nmX0, rfl, rfl⟩
theorem gxX0_275 : GoodIn lw_all (wsV RX0 275 RX0 yX0_layLeast (ws_ yX0_layLeast cX0_layLeast 6 none)) := lw_V q1378 q1380 qs44 q109 q1381
theorem gxX0_311 : GoodIn lw_all (wsV RX0 311 RJ2 yJ2_get (ws_ yJ2_get cJ2_get 2 (some (.object "java/lang/Object")))) := lw_V q1498 q887 q888 q113 q889
theorem gxX0_329 : GoodIn lw_all (wsV RX0 329 RX0 yX0_changes (ws_ yX0_changes cX0_changes 5 (some .int))) := lw_V q1545 q1547 qs52 q109 q1548
theorem gxX0_338 : GoodIn lw_all (wsV RX0 338 RX0 yX0_layFrom (ws_ yX0_layFrom cX0_layFrom 6 (some .boolean))) := lw_V q1533 q1535 qs49 q109 q1536
theorem gxX0_341 : GoodIn lw_all (wsV RX0 341 RX0 yX0_isTree (ws_ yX0_isTree cX0_isTree 6 (some .boolean))) := lw_V q1537 q1539 qs50 q109 q1540
theorem gxX0_344 : GoodIn lw_all (wsV RX0 344 RX0 yX0_allChanges (ws_ yX0_allChanges cX0_allChanges 4 (some .int))) := lw_V q1541 q1543 qs51 q109 q1544
theorem gxX0_347 : GoodIn lw_all (wsV RX0 347 RX0 yX0_laySamples (ws_ yX0_laySamples cX0_laySamples 3 none)) := lw_V q1517 q1519 qs47 q109 q1520
theorem gxX0_350 : GoodIn lw_all (wsV RX0 350 RX0 yX0_layTrees (ws_ yX0_layTrees cX0_layTrees 5 none)) := lw_V q1529 q1531 qs48 q109 q1532
theorem gxX0_353 : GoodIn lw_all (wsV RX0 353 RX0 yX0_changesFrom (ws_ yX0_changesFrom cX0_changesFrom 4 (some .int))) := lw_V q1553 q1555 qs53 q109 q1556
theorem gxX0_356 : GoodIn lw_all (wsV RX0 356 RX0 yX0_clan (ws_ yX0_clan cX0_clan 7 (some .int))) := lw_V q1561 q1563 qs54 q109 q1564
theorem gxX0_366 : GoodIn lw_all (wsV RX0 366 RX13 yX13_isFalse (ws_ yX13_isFalse cX13_isFalse 2 (some .boolean))) := lw_V q1574 q1575 q1576 q141 q1577
def w_X0_wax_136b (S : XS) (P127 : Int32 → Int32 → Int32 → Int32 → WS → Prop) (P136 : Int32 → Int32 → Int32 → Int32 → Int32 → WS → Prop) (v1 : Int32) (v3 : Int32) (v4 : Int32) (v5 : Int32) (v6 : Int32) (μ : WS) (Q : Int32 → WS → Prop) : Prop := (vp_in (v5 - 1) 5 ∧ ((μ.2.2 119 (v5 - 1).toNatClampNeg = some (2100 + (v5 - 1).toNatClampNeg)) ∧ (vp_in v6 16 ∧ ((μ.2.2 118 v6.toNatClampNeg = some (2000 + v6.toNatClampNeg)) ∧ (vp_in v4 4096 ∧ (vp_in (μ.1 (2000 + v6.toNatClampNeg) v4.toNatClampNeg) 4096 ∧ (vp_in v5 5 ∧ ((μ.2.2 119 v5.toNatClampNeg = some (2100 + v5.toNatClampNeg)) ∧ (vp_in v4 4096 ∧ (((1 + (v6 - v6 / 4 * 4)) + (μ.1 (2100 + (v5 - 1).toNatClampNeg) (μ.1 (2000 + v6.toNatClampNeg) v4.toNatClampNeg).toNatClampNeg) = μ.1 (2100 + v5.toNatClampNeg) v4.toNatClampNeg) → (w_X0_put S ((10 * (v6 / 4)) + (v6 - v6 / 4 * 4)) μ (fun μ16 => (vp_in v6 16 ∧ ((μ16.2.2 118 v6.toNatClampNeg = some (2000 + v6.toNatClampNeg)) ∧ (vp_in v4 4096 ∧ (∀ x18 : Int32, x18 = μ16.1 (2000 + v6.toNatClampNeg) v4.toNatClampNeg → P127 v1 v3 x18 (v5 + (-1)) μ16))))))) ∧ ((¬ (1 + (v6 - v6 / 4 * 4)) + (μ.1 (2100 + (v5 - 1).toNatClampNeg) (μ.1 (2000 + v6.toNatClampNeg) v4.toNatClampNeg).toNatClampNeg) = μ.1 (2100 + v5.toNatClampNeg) v4.toNatClampNeg) → P136 v1 v3 v4 v5 (v6 + 1) μ))))))))))
def w_X0_wax_136 (S : XS) (P127 : Int32 → Int32 → Int32 → Int32 → WS → Prop) (v1 : Int32) (v3 : Int32) (v4 : Int32) (v5 : Int32) (v6 : Int32) (μ : WS) (Q : Int32 → WS → Prop) : Prop := ∀ P136 : Int32 → Int32 → Int32 → Int32 → Int32 → WS → Prop, (∀ (v1 : Int32) (v3 : Int32) (v4 : Int32) (v5 : Int32) (v6 : Int32) (μ : WS), w_X0_wax_136b S P127 P136 v1 v3 v4 v5 v6 μ Q → P136 v1 v3 v4 v5 v6 μ) → P136 v1 v3 v4 v5 v6 μ
def w_X0_wax_127b (S : XS) (P127 : Int32 → Int32 → Int32 → Int32 → WS → Prop) (v1 : Int32) (v3 : Int32) (v4 : Int32) (v5 : Int32) (μ : WS) (Q : Int32 → WS → Prop) : Prop := ((v4 = v1) → Q v3 μ) ∧ ((¬ v4 = v1) → w_X0_wax_136 S P127 v1 v3 v4 v5 0 μ Q)
def w_X0_wax_127 (S : XS) (v1 : Int32) (v3 : Int32) (v4 : Int32) (v5 : Int32) (μ : WS) (Q : Int32 → WS → Prop) : Prop := ∀ P127 : Int32 → Int32 → Int32 → Int32 → WS → Prop, (∀ (v1 : Int32) (v3 : Int32) (v4 : Int32) (v5 : Int32) (μ : WS), w_X0_wax_127b S  P127 v1 v3 v4 v5 μ Q → P127 v1 v3 v4 v5 μ) → P127 v1 v3 v4 v5 μ
def w_X0_wax_75 (S : XS) (P24 : Int32 → Int32 → Int32 → WS → Prop) (s0 : Int32) (v1 : Int32) (v3 : Int32) (μ : WS) (Q : Int32 → WS → Prop) : Prop := P24 v1 s0 (v3 + 1) μ
def w_X0_wax_24b (S : XS) (P24 : Int32 → Int32 → Int32 → WS → Prop) (v1 : Int32) (v2 : Int32) (v3 : Int32) (μ : WS) (Q : Int32 → WS → Prop) : Prop := ((μ.1 1000 7 ≤ v3) → ((μ.2.2 119 4 = some (2104)) ∧ (vp_in v2 24 ∧ (vp_in (μ.1 1001 v2.toNatClampNeg) 4096 ∧ (∀ x8 : Int32, x8 = μ.1 2104 (μ.1 1001 v2.toNatClampNeg).toNatClampNeg → ((x8 < 1000000) → (w_X0_put S v2 μ (fun μ10 => (vp_in v2 24 ∧ (∀ x12 : Int32, x12 = μ10.1 1001 v2.toNatClampNeg → w_X0_wax_127 S v1 x8 x12 4 μ10 Q))))) ∧ ((¬ x8 < 1000000) → Q (-1) μ)))))) ∧ ((¬ μ.1 1000 7 ≤ v3) → ((μ.2.2 119 4 = some (2104)) ∧ (vp_in v3 24 ∧ (vp_in (μ.1 1001 v3.toNatClampNeg) 4096 ∧ ((μ.2.2 119 4 = some (2104)) ∧ (vp_in v2 24 ∧ (vp_in (μ.1 1001 v2.toNatClampNeg) 4096 ∧ ((μ.1 2104 (μ.1 1001 v2.toNatClampNeg).toNatClampNeg ≤ μ.1 2104 (μ.1 1001 v3.toNatClampNeg).toNatClampNeg) → w_X0_wax_75 S P24 v2 v1 v3 μ Q) ∧ ((¬ μ.1 2104 (μ.1 1001 v2.toNatClampNeg).toNatClampNeg ≤ μ.1 2104 (μ.1 1001 v3.toNatClampNeg).toNatClampNeg) → w_X0_wax_75 S P24 v3 v1 v3 μ Q))))))))
def w_X0_wax_24 (S : XS) (v1 : Int32) (v2 : Int32) (v3 : Int32) (μ : WS) (Q : Int32 → WS → Prop) : Prop := ∀ P24 : Int32 → Int32 → Int32 → WS → Prop, (∀ (v1 : Int32) (v2 : Int32) (v3 : Int32) (μ : WS), w_X0_wax_24b S  P24 v1 v2 v3 μ Q → P24 v1 v2 v3 μ) → P24 v1 v2 v3 μ
def w_X0_wax (S : XS) (v1 : Int32) (μ : WS) (Q : Int32 → WS → Prop) : Prop := (∀ μ1 : WS, μ1 = wset μ 0 16 0 → (w_X0_isRow S v1 μ1 (fun r3 μ2 => ((¬ r3 = 0) → (w_X0_layLeast S v1 μ2 (fun μ5 => w_X0_wax_24 S v1 0 1 μ5 Q))) ∧ ((r3 = 0) → Q (-1) μ2))))
abbrev rm_X0_wax : Room := { frames := 1704, cells := 0, slots := 0, locals := 51108 }
theorem mf_X0_wax : MFact yX0_wax 1 rm_X0_wax := ⟨by decide +kernel, rfl, rfl⟩
set_option maxHeartbeats 4000000 in
theorem met_X0_wax (l : Launch) (D : va_G) (ac : Nat → ClassId) (ad : Nat → Nat) (S : XS) (hLay : LayOk ad (knX S)) (v1 : Int32) (μ : WS) (Q : Int32 → WS → Prop) (h : w_X0_wax S v1 μ Q) : CMet l yX0_wax cX0_wax 7 (some .int) rm_X0_wax D ac ad (knX S) (ExX D ac ad S) [.ref (ad 0), .int v1] μ (qI Q) := by
  refine vv_met (lv := [(0, .ref (ad 0)), (1, .int v1)]) (by decide) hLay exX_ok (Nat.le_of_ble_eq_true rfl) rfl ⟨rfl, rfl⟩ (fun C hC hK hRm hLl hR hM => ?_)
  subst hLl
  have hRo : RoomOk (HPW D ac ad (knX S) (ExX D ac ad S) (vS C)) (vR C) := HPW.room
  have L136 : ∀ (P127 : Int32 → Int32 → Int32 → Int32 → WS → Prop) (h127 : ∀ (v1 : Int32) (v3 : Int32) (v4 : Int32) (v5 : Int32) (μ : WS), P127 v1 v3 v4 v5 μ → VV C 7 (HPW D ac ad (knX S) (ExX D ac ad S) (vS C)) (vQ C (QcW D ac ad (knX S) (qI Q)) 0 0 (inLay ad (knX S))) (μ, ()) 127 [(0, .ref (ad 0)), (1, .int v1), (3, .int v3), (4, .int v4), (5, .int v5)] []) (v1 : Int32) (v3 : Int32) (v4 : Int32) (v5 : Int32) (v6 : Int32) (μ : WS), w_X0_wax_136 S P127 v1 v3 v4 v5 v6 μ Q → VV C 7 (HPW D ac ad (knX S) (ExX D ac ad S) (vS C)) (vQ C (QcW D ac ad (knX S) (qI Q)) 0 0 (inLay ad (knX S))) (μ, ()) 136 [(0, .ref (ad 0)), (1, .int v1), (3, .int v3), (4, .int v4), (5, .int v5), (6, .int v6)] [] := by
    intro P127 h127 v1 v3 v4 v5 v6 μ h
    refine h (fun v1 v3 v4 v5 v6 μ => VV C 7 (HPW D ac ad (knX S) (ExX D ac ad S) (vS C)) (vQ C (QcW D ac ad (knX S) (qI Q)) 0 0 (inLay ad (knX S))) (μ, ()) 136 [(0, .ref (ad 0)), (1, .int v1), (3, .int v3), (4, .int v4), (5, .int v5), (6, .int v6)] []) ?_
    clear h; intro v1 v3 v4 v5 v6 μ h
    have h136 : ∀ (v1 : Int32) (v3 : Int32) (v4 : Int32) (v5 : Int32) (v6 : Int32) (μ : WS), (fun v1 v3 v4 v5 v6 (μ : WS) => VV C 7 (HPW D ac ad (knX S) (ExX D ac ad S) (vS C)) (vQ C (QcW D ac ad (knX S) (qI Q)) 0 0 (inLay ad (knX S))) (μ, ()) 136 [(0, .ref (ad 0)), (1, .int v1), (3, .int v3), (4, .int v4), (5, .int v5), (6, .int v6)] []) v1 v3 v4 v5 v6 μ → VV C 7 (HPW D ac ad (knX S) (ExX D ac ad S) (vS C)) (vQ C (QcW D ac ad (knX S) (qI Q)) 0 0 (inLay ad (knX S))) (μ, ()) 136 [(0, .ref (ad 0)), (1, .int v1), (3, .int v3), (4, .int v4), (5, .int v5), (6, .int v6)] [] := fun _ _ _ _ _ _ h => h
    unfold w_X0_wax_136b at h
    refine vv_iconst hC dX0_wax_136 xic_1 ?_
    refine vv_iload hC dX0_wax_137 5 rfl ?_
    refine vv_iconst hC dX0_wax_139 xic_4 ?_
    refine vv_irem hC dX0_wax_140 (by decide) ?_
    refine vv_iadd hC dX0_wax_141 ?_
    refine vv_aload_n hC dX0_wax_142 rfl 0 rfl ?_
    refine vv_getf hC hR hK fxX0_66_X0 0 (lx_0 S) rfl dX0_wax_143 ?_
    refine vv_iload hC dX0_wax_146 4 rfl ?_
    refine vv_iconst hC dX0_wax_148 xic_1 ?_
    refine vv_isub hC dX0_wax_149 ?_
    obtain ⟨hin334, h⟩ := h
    obtain ⟨hk335, h⟩ := h
    refine vv_aald hC hR hK 119 (t := 6) rfl (by decide) rfl (lx_119 S) hin334 hk335 dX0_wax_150 ?_
    refine vv_aload_n hC dX0_wax_151 rfl 0 rfl ?_
    refine vv_getf hC hR hK fxX0_63_X0 0 (lx_0 S) rfl dX0_wax_152 ?_
    refine vv_iload hC dX0_wax_155 5 rfl ?_
    obtain ⟨hin336, h⟩ := h
    obtain ⟨hk337, h⟩ := h
    refine vv_aald hC hR hK 118 (t := 6) rfl (by decide) rfl (lx_118 S) hin336 hk337 dX0_wax_157 ?_
    refine vv_iload hC dX0_wax_158 3 rfl ?_
    obtain ⟨hin338, h⟩ := h
    refine vv_iald hC hR hK (2000 + v6.toNatClampNeg) (kx_gets hin336) hin338 dX0_wax_160 ?_
    obtain ⟨hin339, h⟩ := h
    refine vv_iald hC hR hK (2100 + (v5 - 1).toNatClampNeg) (kx_least hin334) hin339 dX0_wax_161 ?_
    refine vv_iadd hC dX0_wax_162 ?_
    refine vv_aload_n hC dX0_wax_163 rfl 0 rfl ?_
    refine vv_getf hC hR hK fxX0_66_X0 0 (lx_0 S) rfl dX0_wax_164 ?_
    refine vv_iload hC dX0_wax_167 4 rfl ?_
    obtain ⟨hin340, h⟩ := h
    obtain ⟨hk341, h⟩ := h
    refine vv_aald hC hR hK 119 (t := 6) rfl (by decide) rfl (lx_119 S) hin340 hk341 dX0_wax_169 ?_
    refine vv_iload hC dX0_wax_170 3 rfl ?_
    obtain ⟨hin342, h⟩ := h
    refine vv_iald hC hR hK (2100 + v5.toNatClampNeg) (kx_least hin340) hin342 dX0_wax_172 ?_
    refine vv_icmp_eq (tgt := 182) hC dX0_wax_173 rfl (fun c15 => ?_) (fun c15 => ?_)
    · replace h := h.1 c15
      refine vv_aload_n hC dX0_wax_182 rfl 0 rfl ?_
      refine vv_bipush hC dX0_wax_183 xbp_10 ?_
      refine vv_iload hC dX0_wax_185 5 rfl ?_
      refine vv_iconst hC dX0_wax_187 xic_4 ?_
      refine vv_idiv hC dX0_wax_188 (by decide) ?_
      refine vv_imul hC dX0_wax_189 ?_
      refine vv_iload hC dX0_wax_190 5 rfl ?_
      refine vv_iconst hC dX0_wax_192 xic_4 ?_
      refine vv_irem hC dX0_wax_193 (by decide) ?_
      refine vv_iadd hC dX0_wax_194 ?_
      refine vv_callVv hC hR hK hRo hRm [.int ((10 * (v6 / 4)) + (v6 - v6 / 4 * 4))] [] (met_X0_put (vL C) D ac ad S hLay ((10 * (v6 / 4)) + (v6 - v6 / 4 * 4)) μ _ h) gxX0_267 mf_X0_put rfl (lx_0 S) rfl rfl rfl rfl dX0_wax_195 (fun μ16 h => ?_)
      refine vv_aload_n hC dX0_wax_198 rfl 0 rfl ?_
      refine vv_getf hC hR hK fxX0_63_X0 0 (lx_0 S) rfl dX0_wax_199 ?_
      refine vv_iload hC dX0_wax_202 5 rfl ?_
      obtain ⟨hin343, h⟩ := h
      obtain ⟨hk344, h⟩ := h
      refine vv_aald hC hR hK 118 (t := 6) rfl (by decide) rfl (lx_118 S) hin343 hk344 dX0_wax_204 ?_
      refine vv_iload hC dX0_wax_205 3 rfl ?_
      obtain ⟨hin345, h⟩ := h
      refine vv_iald hC hR hK (2000 + v6.toNatClampNeg) (kx_gets hin343) hin345 dX0_wax_207 ?_
      refine vv_topi (fun x18 ex18 => ?_)
      replace h := h x18 ex18
      refine vv_istore (lv' := [(4, .int x18), (0, .ref (ad 0)), (1, .int v1), (3, .int v3), (5, .int v5), (6, .int v6)]) hC dX0_wax_208 (by decide) rfl ?_
      refine vv_iinc (pl := 4) (v := v5 + (-1)) (lv' := [(5, .int (v5 + (-1))), (4, .int x18), (0, .ref (ad 0)), (1, .int v1), (3, .int v3), (6, .int v6)]) hC dX0_wax_210 rfl rfl (by decide) rfl ?_
      refine vv_goto (tgt := 127) hC dX0_wax_213 rfl ?_
      refine vv_lv [2, 3, 4, 1, 0] rfl ?_
      exact h127 _ _ _ _ _ h
    · replace h := h.2 c15
      refine vv_iinc (pl := 5) (v := v6 + 1) (lv' := [(6, .int (v6 + 1)), (0, .ref (ad 0)), (1, .int v1), (3, .int v3), (4, .int v4), (5, .int v5)]) hC dX0_wax_176 rfl rfl (by decide) rfl ?_
      refine vv_goto (tgt := 136) hC dX0_wax_179 rfl ?_
      refine vv_lv [1, 2, 3, 4, 5, 0] rfl ?_
      exact h136 _ _ _ _ _ _ h
  have L127 : ∀ (v1 : Int32) (v3 : Int32) (v4 : Int32) (v5 : Int32) (μ : WS), w_X0_wax_127 S  v1 v3 v4 v5 μ Q → VV C 7 (HPW D ac ad (knX S) (ExX D ac ad S) (vS C)) (vQ C (QcW D ac ad (knX S) (qI Q)) 0 0 (inLay ad (knX S))) (μ, ()) 127 [(0, .ref (ad 0)), (1, .int v1), (3, .int v3), (4, .int v4), (5, .int v5)] [] := by
    intro  v1 v3 v4 v5 μ h
    refine h (fun v1 v3 v4 v5 μ => VV C 7 (HPW D ac ad (knX S) (ExX D ac ad S) (vS C)) (vQ C (QcW D ac ad (knX S) (qI Q)) 0 0 (inLay ad (knX S))) (μ, ()) 127 [(0, .ref (ad 0)), (1, .int v1), (3, .int v3), (4, .int v4), (5, .int v5)] []) ?_
    clear h; intro v1 v3 v4 v5 μ h
    have h127 : ∀ (v1 : Int32) (v3 : Int32) (v4 : Int32) (v5 : Int32) (μ : WS), (fun v1 v3 v4 v5 (μ : WS) => VV C 7 (HPW D ac ad (knX S) (ExX D ac ad S) (vS C)) (vQ C (QcW D ac ad (knX S) (qI Q)) 0 0 (inLay ad (knX S))) (μ, ()) 127 [(0, .ref (ad 0)), (1, .int v1), (3, .int v3), (4, .int v4), (5, .int v5)] []) v1 v3 v4 v5 μ → VV C 7 (HPW D ac ad (knX S) (ExX D ac ad S) (vS C)) (vQ C (QcW D ac ad (knX S) (qI Q)) 0 0 (inLay ad (knX S))) (μ, ()) 127 [(0, .ref (ad 0)), (1, .int v1), (3, .int v3), (4, .int v4), (5, .int v5)] [] := fun _ _ _ _ _ h => h
    unfold w_X0_wax_127b at h
    refine vv_iload hC dX0_wax_127 3 rfl ?_
    refine vv_iload_n hC dX0_wax_129 rfl 1 rfl ?_
    refine vv_icmp_eq (tgt := 216) hC dX0_wax_130 rfl (fun c14 => ?_) (fun c14 => ?_)
    · replace h := h.1 c14
      refine vv_iload_n hC dX0_wax_216 rfl 2 rfl ?_
      exact vv_iret hC hM dX0_wax_217 h
    · replace h := h.2 c14
      refine vv_iconst hC dX0_wax_133 xic_0 ?_
      refine vv_istore (lv' := [(6, .int 0), (0, .ref (ad 0)), (1, .int v1), (3, .int v3), (4, .int v4), (5, .int v5)]) hC dX0_wax_134 (by decide) rfl ?_
      refine vv_lv [1, 2, 3, 4, 5, 0] rfl ?_
      exact L136 _ h127 _ _ _ _ _ _ h
  have L75 : ∀ (P24 : Int32 → Int32 → Int32 → WS → Prop) (h24 : ∀ (v1 : Int32) (v2 : Int32) (v3 : Int32) (μ : WS), P24 v1 v2 v3 μ → VV C 7 (HPW D ac ad (knX S) (ExX D ac ad S) (vS C)) (vQ C (QcW D ac ad (knX S) (qI Q)) 0 0 (inLay ad (knX S))) (μ, ()) 24 [(0, .ref (ad 0)), (1, .int v1), (2, .int v2), (3, .int v3)] []) (s0 : Int32) (v1 : Int32) (v3 : Int32) (μ : WS), w_X0_wax_75 S P24 s0 v1 v3 μ Q → VV C 7 (HPW D ac ad (knX S) (ExX D ac ad S) (vS C)) (vQ C (QcW D ac ad (knX S) (qI Q)) 0 0 (inLay ad (knX S))) (μ, ()) 75 [(0, .ref (ad 0)), (1, .int v1), (3, .int v3)] [.int s0] := by
    intro P24 h24 s0 v1 v3 μ h
    unfold w_X0_wax_75 at h
    refine vv_istore_n (lv' := [(2, .int s0), (0, .ref (ad 0)), (1, .int v1), (3, .int v3)]) hC dX0_wax_75 rfl (by decide) rfl ?_
    refine vv_iinc (pl := 3) (v := v3 + 1) (lv' := [(3, .int (v3 + 1)), (2, .int s0), (0, .ref (ad 0)), (1, .int v1)]) hC dX0_wax_76 rfl rfl (by decide) rfl ?_
    refine vv_goto (tgt := 24) hC dX0_wax_79 rfl ?_
    refine vv_lv [2, 3, 1, 0] rfl ?_
    exact h24 _ _ _ _ h
  have L24 : ∀ (v1 : Int32) (v2 : Int32) (v3 : Int32) (μ : WS), w_X0_wax_24 S  v1 v2 v3 μ Q → VV C 7 (HPW D ac ad (knX S) (ExX D ac ad S) (vS C)) (vQ C (QcW D ac ad (knX S) (qI Q)) 0 0 (inLay ad (knX S))) (μ, ()) 24 [(0, .ref (ad 0)), (1, .int v1), (2, .int v2), (3, .int v3)] [] := by
    intro  v1 v2 v3 μ h
    refine h (fun v1 v2 v3 μ => VV C 7 (HPW D ac ad (knX S) (ExX D ac ad S) (vS C)) (vQ C (QcW D ac ad (knX S) (qI Q)) 0 0 (inLay ad (knX S))) (μ, ()) 24 [(0, .ref (ad 0)), (1, .int v1), (2, .int v2), (3, .int v3)] []) ?_
    clear h; intro v1 v2 v3 μ h
    have h24 : ∀ (v1 : Int32) (v2 : Int32) (v3 : Int32) (μ : WS), (fun v1 v2 v3 (μ : WS) => VV C 7 (HPW D ac ad (knX S) (ExX D ac ad S) (vS C)) (vQ C (QcW D ac ad (knX S) (qI Q)) 0 0 (inLay ad (knX S))) (μ, ()) 24 [(0, .ref (ad 0)), (1, .int v1), (2, .int v2), (3, .int v3)] []) v1 v2 v3 μ → VV C 7 (HPW D ac ad (knX S) (ExX D ac ad S) (vS C)) (vQ C (QcW D ac ad (knX S) (qI Q)) 0 0 (inLay ad (knX S))) (μ, ()) 24 [(0, .ref (ad 0)), (1, .int v1), (2, .int v2), (3, .int v3)] [] := fun _ _ _ _ h => h
    unfold w_X0_wax_24b at h
    refine vv_iload_n hC dX0_wax_24 rfl 3 rfl ?_
    refine vv_aload_n hC dX0_wax_25 rfl 0 rfl ?_
    refine vv_getf hC hR hK fxX0_31_X0 0 (lx_0 S) rfl dX0_wax_26 ?_
    refine vv_getf hC hR hK fxX0_154_X3 1000 (lx_1000 S) rfl dX0_wax_29 ?_
    refine vv_icmp_ge (tgt := 82) hC dX0_wax_32 rfl (fun c7 => ?_) (fun c7 => ?_)
    · replace h := h.1 c7
      refine vv_aload_n hC dX0_wax_82 rfl 0 rfl ?_
      refine vv_getf hC hR hK fxX0_66_X0 0 (lx_0 S) rfl dX0_wax_83 ?_
      refine vv_iconst hC dX0_wax_86 xic_4 ?_
      obtain ⟨hk324, h⟩ := h
      refine vv_aald hC hR hK 119 (t := 6) rfl (by decide) rfl (lx_119 S) xvin_4_5 hk324 dX0_wax_87 ?_
      refine vv_aload_n hC dX0_wax_88 rfl 0 rfl ?_
      refine vv_getf hC hR hK fxX0_31_X0 0 (lx_0 S) rfl dX0_wax_89 ?_
      refine vv_getf hC hR hK fxX0_164_X3 1000 (lx_1000 S) rfl dX0_wax_92 ?_
      refine vv_iload_n hC dX0_wax_95 rfl 2 rfl ?_
      obtain ⟨hin325, h⟩ := h
      refine vv_iald hC hR hK 1001 (lx_1001 S) hin325 dX0_wax_96 ?_
      obtain ⟨hin326, h⟩ := h
      refine vv_iald hC hR hK 2104 (lx_2104 S) hin326 dX0_wax_97 ?_
      refine vv_topi (fun x8 ex8 => ?_)
      replace h := h x8 ex8
      refine vv_istore_n (lv' := [(3, .int x8), (0, .ref (ad 0)), (1, .int v1), (2, .int v2)]) hC dX0_wax_98 rfl (by decide) rfl ?_
      refine vv_iload_n hC dX0_wax_99 rfl 0 rfl ?_
      refine vv_ldcw hC q1337 dX0_wax_100 ?_
      refine vv_icmp_lt (tgt := 108) hC dX0_wax_103 rfl (fun c9 => ?_) (fun c9 => ?_)
      · replace h := h.1 c9
        refine vv_aload_n hC dX0_wax_108 rfl 1 rfl ?_
        refine vv_iload_n hC dX0_wax_109 rfl 3 rfl ?_
        refine vv_callVv hC hR hK hRo hRm [.int v2] [] (met_X0_put (vL C) D ac ad S hLay v2 μ _ h) gxX0_267 mf_X0_put rfl (lx_0 S) rfl rfl rfl rfl dX0_wax_110 (fun μ10 h => ?_)
        refine vv_aload_n hC dX0_wax_113 rfl 1 rfl ?_
        refine vv_getf hC hR hK fxX0_31_X0 0 (lx_0 S) rfl dX0_wax_114 ?_
        refine vv_getf hC hR hK fxX0_164_X3 1000 (lx_1000 S) rfl dX0_wax_117 ?_
        refine vv_iload_n hC dX0_wax_120 rfl 3 rfl ?_
        obtain ⟨hin327, h⟩ := h
        refine vv_iald hC hR hK 1001 (lx_1001 S) hin327 dX0_wax_121 ?_
        refine vv_topi (fun x12 ex12 => ?_)
        replace h := h x12 ex12
        refine vv_istore (lv' := [(4, .int x12), (3, .int x8), (0, .ref (ad 0)), (1, .int v1), (2, .int v2)]) hC dX0_wax_122 (by decide) rfl ?_
        refine vv_iconst hC dX0_wax_124 xic_4 ?_
        refine vv_istore (lv' := [(5, .int 4), (4, .int x12), (3, .int x8), (0, .ref (ad 0)), (1, .int v1), (2, .int v2)]) hC dX0_wax_125 (by decide) rfl ?_
        refine vv_lv [3, 4, 2, 1, 0] rfl ?_
        exact L127  _ _ _ _ _ h
      · replace h := h.2 c9
        refine vv_iconst hC dX0_wax_106 xic_m1 ?_
        exact vv_iret hC hM dX0_wax_107 h
    · replace h := h.2 c7
      refine vv_aload_n hC dX0_wax_35 rfl 0 rfl ?_
      refine vv_getf hC hR hK fxX0_66_X0 0 (lx_0 S) rfl dX0_wax_36 ?_
      refine vv_iconst hC dX0_wax_39 xic_4 ?_
      obtain ⟨hk328, h⟩ := h
      refine vv_aald hC hR hK 119 (t := 6) rfl (by decide) rfl (lx_119 S) xvin_4_5 hk328 dX0_wax_40 ?_
      refine vv_aload_n hC dX0_wax_41 rfl 0 rfl ?_
      refine vv_getf hC hR hK fxX0_31_X0 0 (lx_0 S) rfl dX0_wax_42 ?_
      refine vv_getf hC hR hK fxX0_164_X3 1000 (lx_1000 S) rfl dX0_wax_45 ?_
      refine vv_iload_n hC dX0_wax_48 rfl 3 rfl ?_
      obtain ⟨hin329, h⟩ := h
      refine vv_iald hC hR hK 1001 (lx_1001 S) hin329 dX0_wax_49 ?_
      obtain ⟨hin330, h⟩ := h
      refine vv_iald hC hR hK 2104 (lx_2104 S) hin330 dX0_wax_50 ?_
      refine vv_aload_n hC dX0_wax_51 rfl 0 rfl ?_
      refine vv_getf hC hR hK fxX0_66_X0 0 (lx_0 S) rfl dX0_wax_52 ?_
      refine vv_iconst hC dX0_wax_55 xic_4 ?_
      obtain ⟨hk331, h⟩ := h
      refine vv_aald hC hR hK 119 (t := 6) rfl (by decide) rfl (lx_119 S) xvin_4_5 hk331 dX0_wax_56 ?_
      refine vv_aload_n hC dX0_wax_57 rfl 0 rfl ?_
      refine vv_getf hC hR hK fxX0_31_X0 0 (lx_0 S) rfl dX0_wax_58 ?_
      refine vv_getf hC hR hK fxX0_164_X3 1000 (lx_1000 S) rfl dX0_wax_61 ?_
      refine vv_iload_n hC dX0_wax_64 rfl 2 rfl ?_
      obtain ⟨hin332, h⟩ := h
      refine vv_iald hC hR hK 1001 (lx_1001 S) hin332 dX0_wax_65 ?_
      obtain ⟨hin333, h⟩ := h
      refine vv_iald hC hR hK 2104 (lx_2104 S) hin333 dX0_wax_66 ?_
      refine vv_icmp_ge (tgt := 74) hC dX0_wax_67 rfl (fun c13 => ?_) (fun c13 => ?_)
      · replace h := h.1 c13
        refine vv_iload_n hC dX0_wax_74 rfl 2 rfl ?_
        refine vv_lv [0, 1, 3] rfl ?_
        exact L75 _ h24 _ _ _ _ h
      · replace h := h.2 c13
        refine vv_iload_n hC dX0_wax_70 rfl 3 rfl ?_
        refine vv_goto (tgt := 75) hC dX0_wax_71 rfl ?_
        refine vv_lv [0, 1, 3] rfl ?_
        exact L75 _ h24 _ _ _ _ h
  unfold w_X0_wax at h
  refine vv_aload_n hC dX0_wax_0 rfl 0 rfl ?_
  refine vv_iconst hC dX0_wax_1 xic_0 ?_
  refine vv_puti hC hR hK fxX0_121_X0 0 (lx_0 S) rfl rfl rfl dX0_wax_2 ?_
  refine vv_st (fun y e => ?_)
  obtain ⟨μ1, _⟩ := y
  have eμ1 := congrArg Prod.fst e
  clear e
  replace h := h μ1 eμ1
  refine vv_aload_n hC dX0_wax_5 rfl 0 rfl ?_
  refine vv_iload_n hC dX0_wax_6 rfl 1 rfl ?_
  refine vv_callVi hC hR hK hRo hRm [.int v1] [] (met_X0_isRow (vL C) D ac ad S hLay v1 μ1 _ h) gxX0_192 mf_X0_isRow rfl (lx_0 S) rfl rfl rfl rfl dX0_wax_7 (fun r3 μ2 h => ?_)
  refine vv_if_ne (tgt := 15) hC dX0_wax_10 rfl (fun c4 => ?_) (fun c4 => ?_)
  · replace h := h.1 c4
    refine vv_aload_n hC dX0_wax_15 rfl 0 rfl ?_
    refine vv_iload_n hC dX0_wax_16 rfl 1 rfl ?_
    refine vv_callVv hC hR hK hRo hRm [.int v1] [] (met_X0_layLeast (vL C) D ac ad S hLay v1 μ2 _ h) gxX0_275 mf_X0_layLeast rfl (lx_0 S) rfl rfl rfl rfl dX0_wax_17 (fun μ5 h => ?_)
    refine vv_iconst hC dX0_wax_20 xic_0 ?_
    refine vv_istore_n (lv' := [(2, .int 0), (0, .ref (ad 0)), (1, .int v1)]) hC dX0_wax_21 rfl (by decide) rfl ?_
    refine vv_iconst hC dX0_wax_22 xic_1 ?_
    refine vv_istore_n (lv' := [(3, .int 1), (2, .int 0), (0, .ref (ad 0)), (1, .int v1)]) hC dX0_wax_23 rfl (by decide) rfl ?_
    refine vv_lv [2, 3, 1, 0] rfl ?_
    exact L24  _ _ _ _ h
  · replace h := h.2 c4
    refine vv_iconst hC dX0_wax_13 xic_m1 ?_
    exact vv_iret hC hM dX0_wax_14 h
def w_X0_isFull (S : XS) (μ : WS) (Q : Int32 → WS → Prop) : Prop := (w_J2_size_120 S μ (fun r2 μ1 => ((¬ r2 = 40) → Q 0 μ1) ∧ ((r2 = 40) → Q 1 μ1)))
abbrev rm_X0_isFull : Room := { frames := 1, cells := 0, slots := 0, locals := 20 }
theorem mf_X0_isFull : MFact yX0_isFull 0 rm_X0_isFull := ⟨by decide +kernel, rfl, rfl⟩
set_option maxHeartbeats 4000000 in
theorem met_X0_isFull (l : Launch) (D : va_G) (ac : Nat → ClassId) (ad : Nat → Nat) (S : XS) (hLay : LayOk ad (knX S)) (μ : WS) (Q : Int32 → WS → Prop) (h : w_X0_isFull S  μ Q) : CMet l yX0_isFull cX0_isFull 1 (some .boolean) rm_X0_isFull D ac ad (knX S) (ExX D ac ad S) [.ref (ad 0)] μ (qI Q) := by
  refine vv_met (lv := [(0, .ref (ad 0))]) (by decide) hLay exX_ok (Nat.le_of_ble_eq_true rfl) rfl ⟨rfl, rfl⟩ (fun C hC hK hRm hLl hR hM => ?_)
  subst hLl
  have hRo : RoomOk (HPW D ac ad (knX S) (ExX D ac ad S) (vS C)) (vR C) := HPW.room
  unfold w_X0_isFull at h
  refine vv_aload_n hC dX0_isFull_0 rfl 0 rfl ?_
  refine vv_getf hC hR hK fxX0_74_X0 0 (lx_0 S) rfl dX0_isFull_1 ?_
  refine vv_callVi hC hR hK hRo hRm [] [] (met_J2_size_120 (vL C) D ac ad S hLay  μ _ h) gxX0_144 mf_J2_size_120 rfl (lx_120 S) rfl rfl rfl rfl dX0_isFull_4 (fun r2 μ1 h => ?_)
  refine vv_bipush hC dX0_isFull_7 xbp_40 ?_
  refine vv_icmp_ne (tgt := 16) hC dX0_isFull_9 rfl (fun c3 => ?_) (fun c3 => ?_)
  · replace h := h.1 c3
    refine vv_iconst hC dX0_isFull_16 xic_0 ?_
    exact vv_zret hC hM dX0_isFull_17 isB_0 h
  · replace h := h.2 c3
    refine vv_iconst hC dX0_isFull_12 xic_1 ?_
    refine vv_goto (tgt := 17) hC dX0_isFull_13 rfl ?_
    exact vv_zret hC hM dX0_isFull_17 isB_1 h
def w_X0_isPaper (S : XS) (v0 : Int32) (μ : WS) (Q : Int32 → WS → Prop) : Prop := (w_X0_isIn S v0 0 7 μ (fun r2 μ1 => isB r2 ∧ Q r2 μ1))
abbrev rm_X0_isPaper : Room := { frames := 1, cells := 0, slots := 0, locals := 22 }
theorem mf_X0_isPaper : MFact yX0_isPaper 1 rm_X0_isPaper := ⟨by decide +kernel, rfl, rfl⟩
set_option maxHeartbeats 4000000 in
theorem met_X0_isPaper (l : Launch) (D : va_G) (ac : Nat → ClassId) (ad : Nat → Nat) (S : XS) (hLay : LayOk ad (knX S)) (v0 : Int32) (μ : WS) (Q : Int32 → WS → Prop) (h : w_X0_isPaper S v0 μ Q) : CMet l yX0_isPaper cX0_isPaper 1 (some .boolean) rm_X0_isPaper D ac ad (knX S) (ExX D ac ad S) [.int v0] μ (qI Q) := by
  refine vv_met (lv := [(0, .int v0)]) (by decide) hLay exX_ok (Nat.le_of_ble_eq_true rfl) rfl ⟨rfl, rfl⟩ (fun C hC hK hRm hLl hR hM => ?_)
  subst hLl
  have hRo : RoomOk (HPW D ac ad (knX S) (ExX D ac ad S) (vS C)) (vR C) := HPW.room
  unfold w_X0_isPaper at h
  refine vv_iload_n hC dX0_isPaper_0 rfl 0 rfl ?_
  refine vv_iconst hC dX0_isPaper_1 xic_0 ?_
  refine vv_bipush hC dX0_isPaper_2 xbp_7 ?_
  refine vv_callSi hC hR hK hRo hRm [.int v0, .int 0, .int 7] [] (met_X0_isIn (vL C) D ac ad S hLay v0 0 7 μ _ h) gxX0_150 mf_X0_isIn rfl rfl rfl dX0_isPaper_4 (fun r2 μ1 h => ?_)
  exact vv_zret hC hM dX0_isPaper_7 h.1 h.2
def w_X0_untell (S : XS) (v1 : Int32) (μ : WS) (Q : Int32 → WS → Prop) : Prop := (w_J2_size_120 S μ (fun r2 μ1 => (w_X0_isIn S v1 0 (r2 - 1) μ1 (fun r4 μ3 => ((r4 = 0) → Q 0 μ3) ∧ ((¬ r4 = 0) → (w_J2_get_120 S v1 μ3 (fun r7 μ6 => ((isFactA S r7) ∧ ((isFactA S r7) ∧ (w_X11_untell S r7 (μ6.1 0 7) μ6 (fun r9 μ8 => ((r9 = 0) → Q 0 μ8) ∧ ((¬ r9 = 0) → Q 1 μ8))))))))))))
abbrev rm_X0_untell : Room := { frames := 3, cells := 0, slots := 0, locals := 64 }
theorem mf_X0_untell : MFact yX0_untell 1 rm_X0_untell := ⟨by decide +kernel, rfl, rfl⟩
set_option maxHeartbeats 4000000 in
theorem met_X0_untell (l : Launch) (D : va_G) (ac : Nat → ClassId) (ad : Nat → Nat) (S : XS) (hLay : LayOk ad (knX S)) (v1 : Int32) (μ : WS) (Q : Int32 → WS → Prop) (h : w_X0_untell S v1 μ Q) : CMet l yX0_untell cX0_untell 2 (some .boolean) rm_X0_untell D ac ad (knX S) (ExX D ac ad S) [.ref (ad 0), .int v1] μ (qI Q) := by
  refine vv_met (lv := [(0, .ref (ad 0)), (1, .int v1)]) (by decide) hLay exX_ok (Nat.le_of_ble_eq_true rfl) rfl ⟨rfl, rfl⟩ (fun C hC hK hRm hLl hR hM => ?_)
  subst hLl
  have hRo : RoomOk (HPW D ac ad (knX S) (ExX D ac ad S) (vS C)) (vR C) := HPW.room
  unfold w_X0_untell at h
  refine vv_iload_n hC dX0_untell_0 rfl 1 rfl ?_
  refine vv_iconst hC dX0_untell_1 xic_0 ?_
  refine vv_aload_n hC dX0_untell_2 rfl 0 rfl ?_
  refine vv_getf hC hR hK fxX0_74_X0 0 (lx_0 S) rfl dX0_untell_3 ?_
  refine vv_callVi hC hR hK hRo hRm [] [.int 0, .int v1] (met_J2_size_120 (vL C) D ac ad S hLay  μ _ h) gxX0_144 mf_J2_size_120 rfl (lx_120 S) rfl rfl rfl rfl dX0_untell_6 (fun r2 μ1 h => ?_)
  refine vv_iconst hC dX0_untell_9 xic_1 ?_
  refine vv_isub hC dX0_untell_10 ?_
  refine vv_callSi hC hR hK hRo hRm [.int v1, .int 0, .int (r2 - 1)] [] (met_X0_isIn (vL C) D ac ad S hLay v1 0 (r2 - 1) μ1 _ h) gxX0_150 mf_X0_isIn rfl rfl rfl dX0_untell_11 (fun r4 μ3 h => ?_)
  refine vv_if_eq (tgt := 42) hC dX0_untell_14 rfl (fun c5 => ?_) (fun c5 => ?_)
  · replace h := h.1 c5
    refine vv_iconst hC dX0_untell_42 xic_0 ?_
    exact vv_zret hC hM dX0_untell_43 isB_0 h
  · replace h := h.2 c5
    refine vv_aload_n hC dX0_untell_17 rfl 0 rfl ?_
    refine vv_getf hC hR hK fxX0_74_X0 0 (lx_0 S) rfl dX0_untell_18 ?_
    refine vv_iload_n hC dX0_untell_21 rfl 1 rfl ?_
    refine vv_callVr hC hR hK hRo hRm [.int v1] [] (met_J2_get_120 (vL C) D ac ad S hLay v1 μ3 _ h) gxX0_311 mf_J2_get_120 rfl (lx_120 S) rfl rfl rfl rfl dX0_untell_22 (fun r7 μ6 h => ?_)
    obtain ⟨hk346, h⟩ := h
    refine xx_castF hC hR hK hk346 q1499 dX0_untell_25 ?_
    refine vv_aload_n hC dX0_untell_28 rfl 0 rfl ?_
    refine vv_getf hC hR hK fxX0_286_X0 0 (lx_0 S) rfl dX0_untell_29 ?_
    obtain ⟨hk347, h⟩ := h
    refine xx_callF hC hR hK hRo hRm [.int (μ6.1 0 7)] [] (met_X11_untell (vL C) D ac ad S hLay r7 (μ6.1 0 7) μ6 _ h) q1500 q1501 ⟨q1505, q1503, q1506, q1504⟩ q139 q1507 mf_X11_untell rfl hk347 rfl rfl dX0_untell_32 (fun r9 μ8 h => ?_)
    refine vv_if_eq (tgt := 42) hC dX0_untell_35 rfl (fun c10 => ?_) (fun c10 => ?_)
    · replace h := h.1 c10
      refine vv_iconst hC dX0_untell_42 xic_0 ?_
      exact vv_zret hC hM dX0_untell_43 isB_0 h
    · replace h := h.2 c10
      refine vv_iconst hC dX0_untell_38 xic_1 ?_
      refine vv_goto (tgt := 43) hC dX0_untell_39 rfl ?_
      exact vv_zret hC hM dX0_untell_43 isB_1 h
def w_X0_later (S : XS) (v1 : Int32) (μ : WS) (Q : Int32 → WS → Prop) : Prop := ((v1 < 0) → Q (-1) μ) ∧ ((¬ v1 < 0) → ((1000 < v1) → Q (-1) μ) ∧ ((¬ 1000 < v1) → (((μ.1 0 7) + v1 ≤ 100000) → (∀ μ4 : WS, μ4 = wset μ 0 7 ((μ.1 0 7) + v1) → Q (μ4.1 0 7) μ4)) ∧ ((¬ (μ.1 0 7) + v1 ≤ 100000) → Q (-1) μ)))
abbrev rm_X0_later : Room := { frames := 0, cells := 0, slots := 0, locals := 0 }
theorem mf_X0_later : MFact yX0_later 1 rm_X0_later := ⟨by decide +kernel, rfl, rfl⟩
set_option maxHeartbeats 4000000 in
theorem met_X0_later (l : Launch) (D : va_G) (ac : Nat → ClassId) (ad : Nat → Nat) (S : XS) (hLay : LayOk ad (knX S)) (v1 : Int32) (μ : WS) (Q : Int32 → WS → Prop) (h : w_X0_later S v1 μ Q) : CMet l yX0_later cX0_later 2 (some .int) rm_X0_later D ac ad (knX S) (ExX D ac ad S) [.ref (ad 0), .int v1] μ (qI Q) := by
  refine vv_met (lv := [(0, .ref (ad 0)), (1, .int v1)]) (by decide) hLay exX_ok (Nat.le_of_ble_eq_true rfl) rfl ⟨rfl, rfl⟩ (fun C hC hK hRm hLl hR hM => ?_)
  subst hLl
  have hRo : RoomOk (HPW D ac ad (knX S) (ExX D ac ad S) (vS C)) (vR C) := HPW.room
  unfold w_X0_later at h
  refine vv_iload_n hC dX0_later_0 rfl 1 rfl ?_
  refine vv_if_lt (tgt := 23) hC dX0_later_1 rfl (fun c1 => ?_) (fun c1 => ?_)
  · replace h := h.1 c1
    refine vv_iconst hC dX0_later_23 xic_m1 ?_
    exact vv_iret hC hM dX0_later_24 h
  · replace h := h.2 c1
    refine vv_iload_n hC dX0_later_4 rfl 1 rfl ?_
    refine vv_sipush hC dX0_later_5 xsp_1000 ?_
    refine vv_icmp_gt (tgt := 23) hC dX0_later_8 rfl (fun c2 => ?_) (fun c2 => ?_)
    · replace h := h.1 c2
      refine vv_iconst hC dX0_later_23 xic_m1 ?_
      exact vv_iret hC hM dX0_later_24 h
    · replace h := h.2 c2
      refine vv_aload_n hC dX0_later_11 rfl 0 rfl ?_
      refine vv_getf hC hR hK fxX0_286_X0 0 (lx_0 S) rfl dX0_later_12 ?_
      refine vv_iload_n hC dX0_later_15 rfl 1 rfl ?_
      refine vv_iadd hC dX0_later_16 ?_
      refine vv_ldcw hC q1512 dX0_later_17 ?_
      refine vv_icmp_le (tgt := 25) hC dX0_later_20 rfl (fun c3 => ?_) (fun c3 => ?_)
      · replace h := h.1 c3
        refine vv_aload_n hC dX0_later_25 rfl 0 rfl ?_
        refine vv_dup hC dX0_later_26 rfl ?_
        refine vv_getf hC hR hK fxX0_286_X0 0 (lx_0 S) rfl dX0_later_27 ?_
        refine vv_iload_n hC dX0_later_30 rfl 1 rfl ?_
        refine vv_iadd hC dX0_later_31 ?_
        refine vv_puti hC hR hK fxX0_286_X0 0 (lx_0 S) rfl rfl rfl dX0_later_32 ?_
        refine vv_st (fun y e => ?_)
        obtain ⟨μ4, _⟩ := y
        have eμ4 := congrArg Prod.fst e
        clear e
        replace h := h μ4 eμ4
        refine vv_aload_n hC dX0_later_35 rfl 0 rfl ?_
        refine vv_getf hC hR hK fxX0_286_X0 0 (lx_0 S) rfl dX0_later_36 ?_
        exact vv_iret hC hM dX0_later_39 h
      · replace h := h.2 c3
        refine vv_iconst hC dX0_later_23 xic_m1 ?_
        exact vv_iret hC hM dX0_later_24 h
def w_X0_laySamples_92 (S : XS) (P7 : Int32 → Int32 → WS → Prop) (v1 : Int32) (v2 : Int32) (μ : WS) (Q : WS → Prop) : Prop := P7 v1 (v2 + 1) μ
def w_X0_laySamples_7b (S : XS) (P7 : Int32 → Int32 → WS → Prop) (v1 : Int32) (v2 : Int32) (μ : WS) (Q : WS → Prop) : Prop := (w_J2_size_120 S μ (fun r3 μ2 => ((r3 ≤ v2) → Q μ2) ∧ ((¬ r3 ≤ v2) → ((7 ≤ μ2.1 0 24) → Q μ2) ∧ ((¬ 7 ≤ μ2.1 0 24) → (w_J2_get_120 S v2 μ2 (fun r7 μ6 => ((isFactA S r7) ∧ ((isFactA S r7) ∧ (w_X11_isKnown S r7 v1 μ6 (fun r9 μ8 => ((r9 = 0) → w_X0_laySamples_92 S P7 v1 v2 μ8 Q) ∧ ((¬ r9 = 0) → (w_J2_get_120 S v2 μ8 (fun r12 μ11 => ((isFactA S r12) ∧ ((¬ (if S.2.1 r12 = 0 then (1 : Int32) else 0) = 0) → (w_J2_get_120 S v2 μ11 (fun r16 μ15 => ((isFactR S 0 r16) ∧ ((isFactR S 0 r16) ∧ (vp_in (μ11.1 0 24) 7 ∧ (∀ μ17 : WS, μ17 = wsetR μ15 121 (μ11.1 0 24).toNatClampNeg (some r16) → (∀ μ18 : WS, μ18 = wset μ17 0 24 ((μ17.1 0 24) + 1) → w_X0_laySamples_92 S P7 v1 v2 μ18 Q)))))))) ∧ (((if S.2.1 r12 = 0 then (1 : Int32) else 0) = 0) → w_X0_laySamples_92 S P7 v1 v2 μ11 Q)))))))))))))))
def w_X0_laySamples_7 (S : XS) (v1 : Int32) (v2 : Int32) (μ : WS) (Q : WS → Prop) : Prop := ∀ P7 : Int32 → Int32 → WS → Prop, (∀ (v1 : Int32) (v2 : Int32) (μ : WS), w_X0_laySamples_7b S  P7 v1 v2 μ Q → P7 v1 v2 μ) → P7 v1 v2 μ
def w_X0_laySamples (S : XS) (v1 : Int32) (μ : WS) (Q : WS → Prop) : Prop := (∀ μ1 : WS, μ1 = wset μ 0 24 0 → w_X0_laySamples_7 S v1 0 μ1 Q)
abbrev rm_X0_laySamples : Room := { frames := 3, cells := 0, slots := 0, locals := 64 }
theorem mf_X0_laySamples : MFact yX0_laySamples 1 rm_X0_laySamples := ⟨by decide +kernel, rfl, rfl⟩
set_option maxHeartbeats 4000000 in
theorem met_X0_laySamples (l : Launch) (D : va_G) (ac : Nat → ClassId) (ad : Nat → Nat) (S : XS) (hLay : LayOk ad (knX S)) (v1 : Int32) (μ : WS) (Q : WS → Prop) (h : w_X0_laySamples S v1 μ Q) : CMet l yX0_laySamples cX0_laySamples 3 none rm_X0_laySamples D ac ad (knX S) (ExX D ac ad S) [.ref (ad 0), .int v1] μ (qV Q) := by
  refine vv_met (lv := [(0, .ref (ad 0)), (1, .int v1)]) (by decide) hLay exX_ok (Nat.le_of_ble_eq_true rfl) rfl ⟨rfl, rfl⟩ (fun C hC hK hRm hLl hR hM => ?_)
  subst hLl
  have hRo : RoomOk (HPW D ac ad (knX S) (ExX D ac ad S) (vS C)) (vR C) := HPW.room
  have L92 : ∀ (P7 : Int32 → Int32 → WS → Prop) (h7 : ∀ (v1 : Int32) (v2 : Int32) (μ : WS), P7 v1 v2 μ → VV C 3 (HPW D ac ad (knX S) (ExX D ac ad S) (vS C)) (vQ C (QcW D ac ad (knX S) (qV Q)) 0 0 (inLay ad (knX S))) (μ, ()) 7 [(0, .ref (ad 0)), (1, .int v1), (2, .int v2)] []) (v1 : Int32) (v2 : Int32) (μ : WS), w_X0_laySamples_92 S P7 v1 v2 μ Q → VV C 3 (HPW D ac ad (knX S) (ExX D ac ad S) (vS C)) (vQ C (QcW D ac ad (knX S) (qV Q)) 0 0 (inLay ad (knX S))) (μ, ()) 92 [(0, .ref (ad 0)), (1, .int v1), (2, .int v2)] [] := by
    intro P7 h7 v1 v2 μ h
    unfold w_X0_laySamples_92 at h
    refine vv_iinc (pl := 2) (v := v2 + 1) (lv' := [(2, .int (v2 + 1)), (0, .ref (ad 0)), (1, .int v1)]) hC dX0_laySamples_92 rfl rfl (by decide) rfl ?_
    refine vv_goto (tgt := 7) hC dX0_laySamples_95 rfl ?_
    refine vv_lv [1, 2, 0] rfl ?_
    exact h7 _ _ _ h
  have L7 : ∀ (v1 : Int32) (v2 : Int32) (μ : WS), w_X0_laySamples_7 S  v1 v2 μ Q → VV C 3 (HPW D ac ad (knX S) (ExX D ac ad S) (vS C)) (vQ C (QcW D ac ad (knX S) (qV Q)) 0 0 (inLay ad (knX S))) (μ, ()) 7 [(0, .ref (ad 0)), (1, .int v1), (2, .int v2)] [] := by
    intro  v1 v2 μ h
    refine h (fun v1 v2 μ => VV C 3 (HPW D ac ad (knX S) (ExX D ac ad S) (vS C)) (vQ C (QcW D ac ad (knX S) (qV Q)) 0 0 (inLay ad (knX S))) (μ, ()) 7 [(0, .ref (ad 0)), (1, .int v1), (2, .int v2)] []) ?_
    clear h; intro v1 v2 μ h
    have h7 : ∀ (v1 : Int32) (v2 : Int32) (μ : WS), (fun v1 v2 (μ : WS) => VV C 3 (HPW D ac ad (knX S) (ExX D ac ad S) (vS C)) (vQ C (QcW D ac ad (knX S) (qV Q)) 0 0 (inLay ad (knX S))) (μ, ()) 7 [(0, .ref (ad 0)), (1, .int v1), (2, .int v2)] []) v1 v2 μ → VV C 3 (HPW D ac ad (knX S) (ExX D ac ad S) (vS C)) (vQ C (QcW D ac ad (knX S) (qV Q)) 0 0 (inLay ad (knX S))) (μ, ()) 7 [(0, .ref (ad 0)), (1, .int v1), (2, .int v2)] [] := fun _ _ _ h => h
    unfold w_X0_laySamples_7b at h
    refine vv_iload_n hC dX0_laySamples_7 rfl 2 rfl ?_
    refine vv_aload_n hC dX0_laySamples_8 rfl 0 rfl ?_
    refine vv_getf hC hR hK fxX0_74_X0 0 (lx_0 S) rfl dX0_laySamples_9 ?_
    refine vv_callVi hC hR hK hRo hRm [] [.int v2] (met_J2_size_120 (vL C) D ac ad S hLay  μ _ h) gxX0_144 mf_J2_size_120 rfl (lx_120 S) rfl rfl rfl rfl dX0_laySamples_12 (fun r3 μ2 h => ?_)
    refine vv_icmp_ge (tgt := 98) hC dX0_laySamples_15 rfl (fun c4 => ?_) (fun c4 => ?_)
    · replace h := h.1 c4
      exact vv_vret hC hM dX0_laySamples_98 h
    · replace h := h.2 c4
      refine vv_aload_n hC dX0_laySamples_18 rfl 0 rfl ?_
      refine vv_getf hC hR hK fxX0_321_X0 0 (lx_0 S) rfl dX0_laySamples_19 ?_
      refine vv_bipush hC dX0_laySamples_22 xbp_7 ?_
      refine vv_icmp_ge (tgt := 98) hC dX0_laySamples_24 rfl (fun c5 => ?_) (fun c5 => ?_)
      · replace h := h.1 c5
        exact vv_vret hC hM dX0_laySamples_98 h
      · replace h := h.2 c5
        refine vv_aload_n hC dX0_laySamples_27 rfl 0 rfl ?_
        refine vv_getf hC hR hK fxX0_74_X0 0 (lx_0 S) rfl dX0_laySamples_28 ?_
        refine vv_iload_n hC dX0_laySamples_31 rfl 2 rfl ?_
        refine vv_callVr hC hR hK hRo hRm [.int v2] [] (met_J2_get_120 (vL C) D ac ad S hLay v2 μ2 _ h) gxX0_311 mf_J2_get_120 rfl (lx_120 S) rfl rfl rfl rfl dX0_laySamples_32 (fun r7 μ6 h => ?_)
        obtain ⟨hk348, h⟩ := h
        refine xx_castF hC hR hK hk348 q1499 dX0_laySamples_35 ?_
        refine vv_iload_n hC dX0_laySamples_38 rfl 1 rfl ?_
        obtain ⟨hk349, h⟩ := h
        refine xx_callF hC hR hK hRo hRm [.int v1] [] (met_X11_isKnown (vL C) D ac ad S hLay r7 v1 μ6 _ h) q1521 q1522 ⟨q1526, q1524, q1527, q1525⟩ q139 q1528 mf_X11_isKnown rfl hk349 rfl rfl dX0_laySamples_39 (fun r9 μ8 h => ?_)
        refine vv_if_eq (tgt := 92) hC dX0_laySamples_42 rfl (fun c10 => ?_) (fun c10 => ?_)
        · replace h := h.1 c10
          exact L92 _ h7 _ _ _ h
        · replace h := h.2 c10
          refine vv_aload_n hC dX0_laySamples_45 rfl 0 rfl ?_
          refine vv_getf hC hR hK fxX0_74_X0 0 (lx_0 S) rfl dX0_laySamples_46 ?_
          refine vv_iload_n hC dX0_laySamples_49 rfl 2 rfl ?_
          refine vv_callVr hC hR hK hRo hRm [.int v2] [] (met_J2_get_120 (vL C) D ac ad S hLay v2 μ8 _ h) gxX0_311 mf_J2_get_120 rfl (lx_120 S) rfl rfl rfl rfl dX0_laySamples_50 (fun r12 μ11 h => ?_)
          obtain ⟨hk350, h⟩ := h
          refine xx_inst0 hC hR hK hk350 q325 dX0_laySamples_53 ?_
          refine vv_if_ne (tgt := 62) hC dX0_laySamples_56 rfl (fun c14 => ?_) (fun c14 => ?_)
          · replace h := h.1 c14
            refine vv_aload_n hC dX0_laySamples_62 rfl 0 rfl ?_
            refine vv_getf hC hR hK fxX0_80_X0 0 (lx_0 S) rfl dX0_laySamples_63 ?_
            refine vv_aload_n hC dX0_laySamples_66 rfl 0 rfl ?_
            refine vv_getf hC hR hK fxX0_321_X0 0 (lx_0 S) rfl dX0_laySamples_67 ?_
            refine vv_aload_n hC dX0_laySamples_70 rfl 0 rfl ?_
            refine vv_getf hC hR hK fxX0_74_X0 0 (lx_0 S) rfl dX0_laySamples_71 ?_
            refine vv_iload_n hC dX0_laySamples_74 rfl 2 rfl ?_
            refine vv_callVr hC hR hK hRo hRm [.int v2] [.int (μ11.1 0 24), .ref (ad 121)] (met_J2_get_120 (vL C) D ac ad S hLay v2 μ11 _ h) gxX0_311 mf_J2_get_120 rfl (lx_120 S) rfl rfl rfl rfl dX0_laySamples_75 (fun r16 μ15 h => ?_)
            obtain ⟨hk351, h⟩ := h
            refine vv_castS hC hR hK (kx_fact hk351) rfl q325 dX0_laySamples_78 ?_
            obtain ⟨hk352, h⟩ := h
            obtain ⟨hin353, h⟩ := h
            refine vv_aast hC hR hK 121 (t := 7) rfl (by decide) (lx_121 S) (kx_fact hk352) rfl hin353 dX0_laySamples_81 ?_
            refine vv_st (fun y e => ?_)
            obtain ⟨μ17, _⟩ := y
            have eμ17 := congrArg Prod.fst e
            clear e
            replace h := h μ17 eμ17
            refine vv_aload_n hC dX0_laySamples_82 rfl 0 rfl ?_
            refine vv_dup hC dX0_laySamples_83 rfl ?_
            refine vv_getf hC hR hK fxX0_321_X0 0 (lx_0 S) rfl dX0_laySamples_84 ?_
            refine vv_iconst hC dX0_laySamples_87 xic_1 ?_
            refine vv_iadd hC dX0_laySamples_88 ?_
            refine vv_puti hC hR hK fxX0_321_X0 0 (lx_0 S) rfl rfl rfl dX0_laySamples_89 ?_
            refine vv_st (fun y e => ?_)
            obtain ⟨μ18, _⟩ := y
            have eμ18 := congrArg Prod.fst e
            clear e
            replace h := h μ18 eμ18
            exact L92 _ h7 _ _ _ h
          · replace h := h.2 c14
            refine vv_goto (tgt := 92) hC dX0_laySamples_59 rfl ?_
            exact L92 _ h7 _ _ _ h
  unfold w_X0_laySamples at h
  refine vv_aload_n hC dX0_laySamples_0 rfl 0 rfl ?_
  refine vv_iconst hC dX0_laySamples_1 xic_0 ?_
  refine vv_puti hC hR hK fxX0_321_X0 0 (lx_0 S) rfl rfl rfl dX0_laySamples_2 ?_
  refine vv_st (fun y e => ?_)
  obtain ⟨μ1, _⟩ := y
  have eμ1 := congrArg Prod.fst e
  clear e
  replace h := h μ1 eμ1
  refine vv_iconst hC dX0_laySamples_5 xic_0 ?_
  refine vv_istore_n (lv' := [(2, .int 0), (0, .ref (ad 0)), (1, .int v1)]) hC dX0_laySamples_6 rfl (by decide) rfl ?_
  refine vv_lv [1, 2, 0] rfl ?_
  exact L7  _ _ _ h
def w_X0_layFrom_80 (S : XS) (P13 : Int32 → Int32 → Int32 → Int32 → WS → Prop) (v2 : Int32) (v3 : Int32) (v4 : Int32) (v5 : Int32) (μ : WS) (Q : Int32 → WS → Prop) : Prop := P13 v2 v3 v4 (v5 + (-1)) μ
def w_X0_layFrom_78 (S : XS) (P13 : Int32 → Int32 → Int32 → Int32 → WS → Prop) (s0 : Int32) (v2 : Int32) (v3 : Int32) (v5 : Int32) (μ : WS) (Q : Int32 → WS → Prop) : Prop := w_X0_layFrom_80 S P13 v2 v3 s0 v5 μ Q
def w_X0_layFrom_77 (S : XS) (P13 : Int32 → Int32 → Int32 → Int32 → WS → Prop) (v2 : Int32) (v3 : Int32) (v5 : Int32) (μ : WS) (Q : Int32 → WS → Prop) : Prop := w_X0_layFrom_78 S P13 0 v2 v3 v5 μ Q
def w_X0_layFrom_13b (S : XS) (P13 : Int32 → Int32 → Int32 → Int32 → WS → Prop) (v2 : Int32) (v3 : Int32) (v4 : Int32) (v5 : Int32) (μ : WS) (Q : Int32 → WS → Prop) : Prop := ((v5 < 0) → isB v4 ∧ Q v4 μ) ∧ ((¬ v5 < 0) → ((¬ v5 = v2) → (¬ μ.1 0 24 = 0 ∧ (vp_in v5 7 ∧ (∀ μ4 : WS, μ4 = wset μ 122 v5.toNatClampNeg (v3 - v3 / (μ.1 0 24) * (μ.1 0 24)) → (¬ μ4.1 0 24 = 0 ∧ (∀ x5 : Int32, x5 = v3 / (μ4.1 0 24) → ((v4 = 0) → w_X0_layFrom_77 S P13 v2 x5 v5 μ4 Q) ∧ ((¬ v4 = 0) → (vp_in v5 7 ∧ ((μ4.1 122 v5.toNatClampNeg = v5) → w_X0_layFrom_77 S P13 v2 x5 v5 μ4 Q) ∧ ((¬ μ4.1 122 v5.toNatClampNeg = v5) → w_X0_layFrom_78 S P13 1 v2 x5 v5 μ4 Q))))))))) ∧ ((v5 = v2) → (vp_in v5 7 ∧ (∀ μ8 : WS, μ8 = wset μ 122 v5.toNatClampNeg v5 → w_X0_layFrom_80 S P13 v2 v3 v4 v5 μ8 Q))))
def w_X0_layFrom_13 (S : XS) (v2 : Int32) (v3 : Int32) (v4 : Int32) (v5 : Int32) (μ : WS) (Q : Int32 → WS → Prop) : Prop := ∀ P13 : Int32 → Int32 → Int32 → Int32 → WS → Prop, (∀ (v2 : Int32) (v3 : Int32) (v4 : Int32) (v5 : Int32) (μ : WS), w_X0_layFrom_13b S  P13 v2 v3 v4 v5 μ Q → P13 v2 v3 v4 v5 μ) → P13 v2 v3 v4 v5 μ
def w_X0_layFrom (S : XS) (v1 : Int32) (v2 : Int32) (μ : WS) (Q : Int32 → WS → Prop) : Prop := (∀ x1 : Int32, x1 = (μ.1 0 24) - 1 → w_X0_layFrom_13 S v2 v1 1 x1 μ Q)
abbrev rm_X0_layFrom : Room := { frames := 0, cells := 0, slots := 0, locals := 0 }
theorem mf_X0_layFrom : MFact yX0_layFrom 2 rm_X0_layFrom := ⟨by decide +kernel, rfl, rfl⟩
set_option maxHeartbeats 4000000 in
theorem met_X0_layFrom (l : Launch) (D : va_G) (ac : Nat → ClassId) (ad : Nat → Nat) (S : XS) (hLay : LayOk ad (knX S)) (v1 : Int32) (v2 : Int32) (μ : WS) (Q : Int32 → WS → Prop) (h : w_X0_layFrom S v1 v2 μ Q) : CMet l yX0_layFrom cX0_layFrom 6 (some .boolean) rm_X0_layFrom D ac ad (knX S) (ExX D ac ad S) [.ref (ad 0), .int v1, .int v2] μ (qI Q) := by
  refine vv_met (lv := [(0, .ref (ad 0)), (1, .int v1), (2, .int v2)]) (by decide) hLay exX_ok (Nat.le_of_ble_eq_true rfl) rfl ⟨rfl, rfl⟩ (fun C hC hK hRm hLl hR hM => ?_)
  subst hLl
  have hRo : RoomOk (HPW D ac ad (knX S) (ExX D ac ad S) (vS C)) (vR C) := HPW.room
  have L80 : ∀ (P13 : Int32 → Int32 → Int32 → Int32 → WS → Prop) (h13 : ∀ (v2 : Int32) (v3 : Int32) (v4 : Int32) (v5 : Int32) (μ : WS), P13 v2 v3 v4 v5 μ → VV C 6 (HPW D ac ad (knX S) (ExX D ac ad S) (vS C)) (vQ C (QcW D ac ad (knX S) (qI Q)) 0 0 (inLay ad (knX S))) (μ, ()) 13 [(0, .ref (ad 0)), (2, .int v2), (3, .int v3), (4, .int v4), (5, .int v5)] []) (v2 : Int32) (v3 : Int32) (v4 : Int32) (v5 : Int32) (μ : WS), w_X0_layFrom_80 S P13 v2 v3 v4 v5 μ Q → VV C 6 (HPW D ac ad (knX S) (ExX D ac ad S) (vS C)) (vQ C (QcW D ac ad (knX S) (qI Q)) 0 0 (inLay ad (knX S))) (μ, ()) 80 [(0, .ref (ad 0)), (2, .int v2), (3, .int v3), (4, .int v4), (5, .int v5)] [] := by
    intro P13 h13 v2 v3 v4 v5 μ h
    unfold w_X0_layFrom_80 at h
    refine vv_iinc (pl := 4) (v := v5 + (-1)) (lv' := [(5, .int (v5 + (-1))), (0, .ref (ad 0)), (2, .int v2), (3, .int v3), (4, .int v4)]) hC dX0_layFrom_80 rfl rfl (by decide) rfl ?_
    refine vv_goto (tgt := 13) hC dX0_layFrom_83 rfl ?_
    refine vv_lv [1, 2, 3, 4, 0] rfl ?_
    exact h13 _ _ _ _ _ h
  have L78 : ∀ (P13 : Int32 → Int32 → Int32 → Int32 → WS → Prop) (h13 : ∀ (v2 : Int32) (v3 : Int32) (v4 : Int32) (v5 : Int32) (μ : WS), P13 v2 v3 v4 v5 μ → VV C 6 (HPW D ac ad (knX S) (ExX D ac ad S) (vS C)) (vQ C (QcW D ac ad (knX S) (qI Q)) 0 0 (inLay ad (knX S))) (μ, ()) 13 [(0, .ref (ad 0)), (2, .int v2), (3, .int v3), (4, .int v4), (5, .int v5)] []) (s0 : Int32) (v2 : Int32) (v3 : Int32) (v5 : Int32) (μ : WS), w_X0_layFrom_78 S P13 s0 v2 v3 v5 μ Q → VV C 6 (HPW D ac ad (knX S) (ExX D ac ad S) (vS C)) (vQ C (QcW D ac ad (knX S) (qI Q)) 0 0 (inLay ad (knX S))) (μ, ()) 78 [(0, .ref (ad 0)), (2, .int v2), (3, .int v3), (5, .int v5)] [.int s0] := by
    intro P13 h13 s0 v2 v3 v5 μ h
    unfold w_X0_layFrom_78 at h
    refine vv_istore (lv' := [(4, .int s0), (0, .ref (ad 0)), (2, .int v2), (3, .int v3), (5, .int v5)]) hC dX0_layFrom_78 (by decide) rfl ?_
    refine vv_lv [1, 2, 3, 0, 4] rfl ?_
    exact L80 _ h13 _ _ _ _ _ h
  have L77 : ∀ (P13 : Int32 → Int32 → Int32 → Int32 → WS → Prop) (h13 : ∀ (v2 : Int32) (v3 : Int32) (v4 : Int32) (v5 : Int32) (μ : WS), P13 v2 v3 v4 v5 μ → VV C 6 (HPW D ac ad (knX S) (ExX D ac ad S) (vS C)) (vQ C (QcW D ac ad (knX S) (qI Q)) 0 0 (inLay ad (knX S))) (μ, ()) 13 [(0, .ref (ad 0)), (2, .int v2), (3, .int v3), (4, .int v4), (5, .int v5)] []) (v2 : Int32) (v3 : Int32) (v5 : Int32) (μ : WS), w_X0_layFrom_77 S P13 v2 v3 v5 μ Q → VV C 6 (HPW D ac ad (knX S) (ExX D ac ad S) (vS C)) (vQ C (QcW D ac ad (knX S) (qI Q)) 0 0 (inLay ad (knX S))) (μ, ()) 77 [(0, .ref (ad 0)), (2, .int v2), (3, .int v3), (5, .int v5)] [] := by
    intro P13 h13 v2 v3 v5 μ h
    unfold w_X0_layFrom_77 at h
    refine vv_iconst hC dX0_layFrom_77 xic_0 ?_
    exact L78 _ h13 _ _ _ _ _ h
  have L13 : ∀ (v2 : Int32) (v3 : Int32) (v4 : Int32) (v5 : Int32) (μ : WS), w_X0_layFrom_13 S  v2 v3 v4 v5 μ Q → VV C 6 (HPW D ac ad (knX S) (ExX D ac ad S) (vS C)) (vQ C (QcW D ac ad (knX S) (qI Q)) 0 0 (inLay ad (knX S))) (μ, ()) 13 [(0, .ref (ad 0)), (2, .int v2), (3, .int v3), (4, .int v4), (5, .int v5)] [] := by
    intro  v2 v3 v4 v5 μ h
    refine h (fun v2 v3 v4 v5 μ => VV C 6 (HPW D ac ad (knX S) (ExX D ac ad S) (vS C)) (vQ C (QcW D ac ad (knX S) (qI Q)) 0 0 (inLay ad (knX S))) (μ, ()) 13 [(0, .ref (ad 0)), (2, .int v2), (3, .int v3), (4, .int v4), (5, .int v5)] []) ?_
    clear h; intro v2 v3 v4 v5 μ h
    have h13 : ∀ (v2 : Int32) (v3 : Int32) (v4 : Int32) (v5 : Int32) (μ : WS), (fun v2 v3 v4 v5 (μ : WS) => VV C 6 (HPW D ac ad (knX S) (ExX D ac ad S) (vS C)) (vQ C (QcW D ac ad (knX S) (qI Q)) 0 0 (inLay ad (knX S))) (μ, ()) 13 [(0, .ref (ad 0)), (2, .int v2), (3, .int v3), (4, .int v4), (5, .int v5)] []) v2 v3 v4 v5 μ → VV C 6 (HPW D ac ad (knX S) (ExX D ac ad S) (vS C)) (vQ C (QcW D ac ad (knX S) (qI Q)) 0 0 (inLay ad (knX S))) (μ, ()) 13 [(0, .ref (ad 0)), (2, .int v2), (3, .int v3), (4, .int v4), (5, .int v5)] [] := fun _ _ _ _ _ h => h
    unfold w_X0_layFrom_13b at h
    refine vv_iload hC dX0_layFrom_13 4 rfl ?_
    refine vv_if_lt (tgt := 86) hC dX0_layFrom_15 rfl (fun c2 => ?_) (fun c2 => ?_)
    · replace h := h.1 c2
      refine vv_iload hC dX0_layFrom_86 3 rfl ?_
      exact vv_zret hC hM dX0_layFrom_88 h.1 h.2
    · replace h := h.2 c2
      refine vv_iload hC dX0_layFrom_18 4 rfl ?_
      refine vv_iload_n hC dX0_layFrom_20 rfl 1 rfl ?_
      refine vv_icmp_ne (tgt := 36) hC dX0_layFrom_21 rfl (fun c3 => ?_) (fun c3 => ?_)
      · replace h := h.1 c3
        refine vv_aload_n hC dX0_layFrom_36 rfl 0 rfl ?_
        refine vv_getf hC hR hK fxX0_84_X0 0 (lx_0 S) rfl dX0_layFrom_37 ?_
        refine vv_iload hC dX0_layFrom_40 4 rfl ?_
        refine vv_iload_n hC dX0_layFrom_42 rfl 2 rfl ?_
        refine vv_aload_n hC dX0_layFrom_43 rfl 0 rfl ?_
        refine vv_getf hC hR hK fxX0_321_X0 0 (lx_0 S) rfl dX0_layFrom_44 ?_
        obtain ⟨hne, h⟩ := h
        refine vv_irem hC dX0_layFrom_47 hne ?_
        obtain ⟨hin354, h⟩ := h
        refine vv_iast hC hR hK 122 (lx_122 S) hin354 dX0_layFrom_48 ?_
        refine vv_st (fun y e => ?_)
        obtain ⟨μ4, _⟩ := y
        have eμ4 := congrArg Prod.fst e
        clear e
        replace h := h μ4 eμ4
        refine vv_iload_n hC dX0_layFrom_49 rfl 2 rfl ?_
        refine vv_aload_n hC dX0_layFrom_50 rfl 0 rfl ?_
        refine vv_getf hC hR hK fxX0_321_X0 0 (lx_0 S) rfl dX0_layFrom_51 ?_
        obtain ⟨hne, h⟩ := h
        refine vv_idiv hC dX0_layFrom_54 hne ?_
        refine vv_topi (fun x5 ex5 => ?_)
        replace h := h x5 ex5
        refine vv_istore_n (lv' := [(3, .int x5), (0, .ref (ad 0)), (2, .int v2), (4, .int v4), (5, .int v5)]) hC dX0_layFrom_55 rfl (by decide) rfl ?_
        refine vv_iload hC dX0_layFrom_56 3 rfl ?_
        refine vv_if_eq (tgt := 77) hC dX0_layFrom_58 rfl (fun c6 => ?_) (fun c6 => ?_)
        · replace h := h.1 c6
          refine vv_lv [1, 2, 0, 4] rfl ?_
          exact L77 _ h13 _ _ _ _ h
        · replace h := h.2 c6
          refine vv_aload_n hC dX0_layFrom_61 rfl 1 rfl ?_
          refine vv_getf hC hR hK fxX0_84_X0 0 (lx_0 S) rfl dX0_layFrom_62 ?_
          refine vv_iload hC dX0_layFrom_65 4 rfl ?_
          obtain ⟨hin355, h⟩ := h
          refine vv_iald hC hR hK 122 (lx_122 S) hin355 dX0_layFrom_67 ?_
          refine vv_iload hC dX0_layFrom_68 4 rfl ?_
          refine vv_icmp_eq (tgt := 77) hC dX0_layFrom_70 rfl (fun c7 => ?_) (fun c7 => ?_)
          · replace h := h.1 c7
            refine vv_lv [1, 2, 0, 4] rfl ?_
            exact L77 _ h13 _ _ _ _ h
          · replace h := h.2 c7
            refine vv_iconst hC dX0_layFrom_73 xic_1 ?_
            refine vv_goto (tgt := 78) hC dX0_layFrom_74 rfl ?_
            refine vv_lv [1, 2, 0, 4] rfl ?_
            exact L78 _ h13 _ _ _ _ _ h
      · replace h := h.2 c3
        refine vv_aload_n hC dX0_layFrom_24 rfl 0 rfl ?_
        refine vv_getf hC hR hK fxX0_84_X0 0 (lx_0 S) rfl dX0_layFrom_25 ?_
        refine vv_iload hC dX0_layFrom_28 4 rfl ?_
        refine vv_iload hC dX0_layFrom_30 4 rfl ?_
        obtain ⟨hin356, h⟩ := h
        refine vv_iast hC hR hK 122 (lx_122 S) hin356 dX0_layFrom_32 ?_
        refine vv_st (fun y e => ?_)
        obtain ⟨μ8, _⟩ := y
        have eμ8 := congrArg Prod.fst e
        clear e
        replace h := h μ8 eμ8
        refine vv_goto (tgt := 80) hC dX0_layFrom_33 rfl ?_
        exact L80 _ h13 _ _ _ _ _ h
  unfold w_X0_layFrom at h
  refine vv_iload_n hC dX0_layFrom_0 rfl 1 rfl ?_
  refine vv_istore_n (lv' := [(3, .int v1), (0, .ref (ad 0)), (1, .int v1), (2, .int v2)]) hC dX0_layFrom_1 rfl (by decide) rfl ?_
  refine vv_iconst hC dX0_layFrom_2 xic_1 ?_
  refine vv_istore (lv' := [(4, .int 1), (3, .int v1), (0, .ref (ad 0)), (1, .int v1), (2, .int v2)]) hC dX0_layFrom_3 (by decide) rfl ?_
  refine vv_aload_n hC dX0_layFrom_5 rfl 2 rfl ?_
  refine vv_getf hC hR hK fxX0_321_X0 0 (lx_0 S) rfl dX0_layFrom_6 ?_
  refine vv_iconst hC dX0_layFrom_9 xic_1 ?_
  refine vv_isub hC dX0_layFrom_10 ?_
  refine vv_topi (fun x1 ex1 => ?_)
  replace h := h x1 ex1
  refine vv_istore (lv' := [(5, .int x1), (4, .int 1), (3, .int v1), (0, .ref (ad 0)), (1, .int v1), (2, .int v2)]) hC dX0_layFrom_11 (by decide) rfl ?_
  refine vv_lv [3, 5, 2, 1, 0] rfl ?_
  exact L13  _ _ _ _ _ h
def w_X0_isTree_57 (S : XS) (P4 : Int32 → Int32 → Int32 → WS → Prop) (s0 : Int32) (v1 : Int32) (v3 : Int32) (μ : WS) (Q : Int32 → WS → Prop) : Prop := P4 v1 s0 (v3 + 1) μ
def w_X0_isTree_22b (S : XS) (P4 : Int32 → Int32 → Int32 → WS → Prop) (P22 : Int32 → Int32 → Int32 → Int32 → WS → Prop) (v1 : Int32) (v3 : Int32) (v4 : Int32) (v5 : Int32) (μ : WS) (Q : Int32 → WS → Prop) : Prop := ((μ.1 0 24 ≤ v5) → ((¬ v4 = v1) → w_X0_isTree_57 S P4 0 v1 v3 μ Q) ∧ ((v4 = v1) → w_X0_isTree_57 S P4 1 v1 v3 μ Q)) ∧ ((¬ μ.1 0 24 ≤ v5) → (vp_in v4 7 ∧ (∀ x5 : Int32, x5 = μ.1 122 v4.toNatClampNeg → P22 v1 v3 x5 (v5 + 1) μ)))
def w_X0_isTree_22 (S : XS) (P4 : Int32 → Int32 → Int32 → WS → Prop) (v1 : Int32) (v3 : Int32) (v4 : Int32) (v5 : Int32) (μ : WS) (Q : Int32 → WS → Prop) : Prop := ∀ P22 : Int32 → Int32 → Int32 → Int32 → WS → Prop, (∀ (v1 : Int32) (v3 : Int32) (v4 : Int32) (v5 : Int32) (μ : WS), w_X0_isTree_22b S P4 P22 v1 v3 v4 v5 μ Q → P22 v1 v3 v4 v5 μ) → P22 v1 v3 v4 v5 μ
def w_X0_isTree_4b (S : XS) (P4 : Int32 → Int32 → Int32 → WS → Prop) (v1 : Int32) (v2 : Int32) (v3 : Int32) (μ : WS) (Q : Int32 → WS → Prop) : Prop := ((μ.1 0 24 ≤ v3) → isB v2 ∧ Q v2 μ) ∧ ((¬ μ.1 0 24 ≤ v3) → ((v2 = 0) → isB v2 ∧ Q v2 μ) ∧ ((¬ v2 = 0) → w_X0_isTree_22 S P4 v1 v3 v3 0 μ Q))
def w_X0_isTree_4 (S : XS) (v1 : Int32) (v2 : Int32) (v3 : Int32) (μ : WS) (Q : Int32 → WS → Prop) : Prop := ∀ P4 : Int32 → Int32 → Int32 → WS → Prop, (∀ (v1 : Int32) (v2 : Int32) (v3 : Int32) (μ : WS), w_X0_isTree_4b S  P4 v1 v2 v3 μ Q → P4 v1 v2 v3 μ) → P4 v1 v2 v3 μ
def w_X0_isTree (S : XS) (v1 : Int32) (μ : WS) (Q : Int32 → WS → Prop) : Prop := w_X0_isTree_4 S v1 1 0 μ Q
abbrev rm_X0_isTree : Room := { frames := 0, cells := 0, slots := 0, locals := 0 }
theorem mf_X0_isTree : MFact yX0_isTree 1 rm_X0_isTree := ⟨by decide +kernel, rfl, rfl⟩
set_option maxHeartbeats 4000000 in
theorem met_X0_isTree (l : Launch) (D : va_G) (ac : Nat → ClassId) (ad : Nat → Nat) (S : XS) (hLay : LayOk ad (knX S)) (v1 : Int32) (μ : WS) (Q : Int32 → WS → Prop) (h : w_X0_isTree S v1 μ Q) : CMet l yX0_isTree cX0_isTree 6 (some .boolean) rm_X0_isTree D ac ad (knX S) (ExX D ac ad S) [.ref (ad 0), .int v1] μ (qI Q) := by
  refine vv_met (lv := [(0, .ref (ad 0)), (1, .int v1)]) (by decide) hLay exX_ok (Nat.le_of_ble_eq_true rfl) rfl ⟨rfl, rfl⟩ (fun C hC hK hRm hLl hR hM => ?_)
  subst hLl
  have hRo : RoomOk (HPW D ac ad (knX S) (ExX D ac ad S) (vS C)) (vR C) := HPW.room
  have L57 : ∀ (P4 : Int32 → Int32 → Int32 → WS → Prop) (h4 : ∀ (v1 : Int32) (v2 : Int32) (v3 : Int32) (μ : WS), P4 v1 v2 v3 μ → VV C 6 (HPW D ac ad (knX S) (ExX D ac ad S) (vS C)) (vQ C (QcW D ac ad (knX S) (qI Q)) 0 0 (inLay ad (knX S))) (μ, ()) 4 [(0, .ref (ad 0)), (1, .int v1), (2, .int v2), (3, .int v3)] []) (s0 : Int32) (v1 : Int32) (v3 : Int32) (μ : WS), w_X0_isTree_57 S P4 s0 v1 v3 μ Q → VV C 6 (HPW D ac ad (knX S) (ExX D ac ad S) (vS C)) (vQ C (QcW D ac ad (knX S) (qI Q)) 0 0 (inLay ad (knX S))) (μ, ()) 57 [(0, .ref (ad 0)), (1, .int v1), (3, .int v3)] [.int s0] := by
    intro P4 h4 s0 v1 v3 μ h
    unfold w_X0_isTree_57 at h
    refine vv_istore_n (lv' := [(2, .int s0), (0, .ref (ad 0)), (1, .int v1), (3, .int v3)]) hC dX0_isTree_57 rfl (by decide) rfl ?_
    refine vv_iinc (pl := 3) (v := v3 + 1) (lv' := [(3, .int (v3 + 1)), (2, .int s0), (0, .ref (ad 0)), (1, .int v1)]) hC dX0_isTree_58 rfl rfl (by decide) rfl ?_
    refine vv_goto (tgt := 4) hC dX0_isTree_61 rfl ?_
    refine vv_lv [2, 3, 1, 0] rfl ?_
    exact h4 _ _ _ _ h
  have L22 : ∀ (P4 : Int32 → Int32 → Int32 → WS → Prop) (h4 : ∀ (v1 : Int32) (v2 : Int32) (v3 : Int32) (μ : WS), P4 v1 v2 v3 μ → VV C 6 (HPW D ac ad (knX S) (ExX D ac ad S) (vS C)) (vQ C (QcW D ac ad (knX S) (qI Q)) 0 0 (inLay ad (knX S))) (μ, ()) 4 [(0, .ref (ad 0)), (1, .int v1), (2, .int v2), (3, .int v3)] []) (v1 : Int32) (v3 : Int32) (v4 : Int32) (v5 : Int32) (μ : WS), w_X0_isTree_22 S P4 v1 v3 v4 v5 μ Q → VV C 6 (HPW D ac ad (knX S) (ExX D ac ad S) (vS C)) (vQ C (QcW D ac ad (knX S) (qI Q)) 0 0 (inLay ad (knX S))) (μ, ()) 22 [(0, .ref (ad 0)), (1, .int v1), (3, .int v3), (4, .int v4), (5, .int v5)] [] := by
    intro P4 h4 v1 v3 v4 v5 μ h
    refine h (fun v1 v3 v4 v5 μ => VV C 6 (HPW D ac ad (knX S) (ExX D ac ad S) (vS C)) (vQ C (QcW D ac ad (knX S) (qI Q)) 0 0 (inLay ad (knX S))) (μ, ()) 22 [(0, .ref (ad 0)), (1, .int v1), (3, .int v3), (4, .int v4), (5, .int v5)] []) ?_
    clear h; intro v1 v3 v4 v5 μ h
    have h22 : ∀ (v1 : Int32) (v3 : Int32) (v4 : Int32) (v5 : Int32) (μ : WS), (fun v1 v3 v4 v5 (μ : WS) => VV C 6 (HPW D ac ad (knX S) (ExX D ac ad S) (vS C)) (vQ C (QcW D ac ad (knX S) (qI Q)) 0 0 (inLay ad (knX S))) (μ, ()) 22 [(0, .ref (ad 0)), (1, .int v1), (3, .int v3), (4, .int v4), (5, .int v5)] []) v1 v3 v4 v5 μ → VV C 6 (HPW D ac ad (knX S) (ExX D ac ad S) (vS C)) (vQ C (QcW D ac ad (knX S) (qI Q)) 0 0 (inLay ad (knX S))) (μ, ()) 22 [(0, .ref (ad 0)), (1, .int v1), (3, .int v3), (4, .int v4), (5, .int v5)] [] := fun _ _ _ _ _ h => h
    unfold w_X0_isTree_22b at h
    refine vv_iload hC dX0_isTree_22 4 rfl ?_
    refine vv_aload_n hC dX0_isTree_24 rfl 0 rfl ?_
    refine vv_getf hC hR hK fxX0_321_X0 0 (lx_0 S) rfl dX0_isTree_25 ?_
    refine vv_icmp_ge (tgt := 46) hC dX0_isTree_28 rfl (fun c3 => ?_) (fun c3 => ?_)
    · replace h := h.1 c3
      refine vv_iload hC dX0_isTree_46 3 rfl ?_
      refine vv_iload_n hC dX0_isTree_48 rfl 1 rfl ?_
      refine vv_icmp_ne (tgt := 56) hC dX0_isTree_49 rfl (fun c4 => ?_) (fun c4 => ?_)
      · replace h := h.1 c4
        refine vv_iconst hC dX0_isTree_56 xic_0 ?_
        refine vv_lv [0, 1, 2] rfl ?_
        exact L57 _ h4 _ _ _ _ h
      · replace h := h.2 c4
        refine vv_iconst hC dX0_isTree_52 xic_1 ?_
        refine vv_goto (tgt := 57) hC dX0_isTree_53 rfl ?_
        refine vv_lv [0, 1, 2] rfl ?_
        exact L57 _ h4 _ _ _ _ h
    · replace h := h.2 c3
      refine vv_aload_n hC dX0_isTree_31 rfl 0 rfl ?_
      refine vv_getf hC hR hK fxX0_84_X0 0 (lx_0 S) rfl dX0_isTree_32 ?_
      refine vv_iload hC dX0_isTree_35 3 rfl ?_
      obtain ⟨hin357, h⟩ := h
      refine vv_iald hC hR hK 122 (lx_122 S) hin357 dX0_isTree_37 ?_
      refine vv_topi (fun x5 ex5 => ?_)
      replace h := h x5 ex5
      refine vv_istore (lv' := [(4, .int x5), (0, .ref (ad 0)), (1, .int v1), (3, .int v3), (5, .int v5)]) hC dX0_isTree_38 (by decide) rfl ?_
      refine vv_iinc (pl := 4) (v := v5 + 1) (lv' := [(5, .int (v5 + 1)), (4, .int x5), (0, .ref (ad 0)), (1, .int v1), (3, .int v3)]) hC dX0_isTree_40 rfl rfl (by decide) rfl ?_
      refine vv_goto (tgt := 22) hC dX0_isTree_43 rfl ?_
      refine vv_lv [2, 3, 4, 1, 0] rfl ?_
      exact h22 _ _ _ _ _ h
  have L4 : ∀ (v1 : Int32) (v2 : Int32) (v3 : Int32) (μ : WS), w_X0_isTree_4 S  v1 v2 v3 μ Q → VV C 6 (HPW D ac ad (knX S) (ExX D ac ad S) (vS C)) (vQ C (QcW D ac ad (knX S) (qI Q)) 0 0 (inLay ad (knX S))) (μ, ()) 4 [(0, .ref (ad 0)), (1, .int v1), (2, .int v2), (3, .int v3)] [] := by
    intro  v1 v2 v3 μ h
    refine h (fun v1 v2 v3 μ => VV C 6 (HPW D ac ad (knX S) (ExX D ac ad S) (vS C)) (vQ C (QcW D ac ad (knX S) (qI Q)) 0 0 (inLay ad (knX S))) (μ, ()) 4 [(0, .ref (ad 0)), (1, .int v1), (2, .int v2), (3, .int v3)] []) ?_
    clear h; intro v1 v2 v3 μ h
    have h4 : ∀ (v1 : Int32) (v2 : Int32) (v3 : Int32) (μ : WS), (fun v1 v2 v3 (μ : WS) => VV C 6 (HPW D ac ad (knX S) (ExX D ac ad S) (vS C)) (vQ C (QcW D ac ad (knX S) (qI Q)) 0 0 (inLay ad (knX S))) (μ, ()) 4 [(0, .ref (ad 0)), (1, .int v1), (2, .int v2), (3, .int v3)] []) v1 v2 v3 μ → VV C 6 (HPW D ac ad (knX S) (ExX D ac ad S) (vS C)) (vQ C (QcW D ac ad (knX S) (qI Q)) 0 0 (inLay ad (knX S))) (μ, ()) 4 [(0, .ref (ad 0)), (1, .int v1), (2, .int v2), (3, .int v3)] [] := fun _ _ _ _ h => h
    unfold w_X0_isTree_4b at h
    refine vv_iload_n hC dX0_isTree_4 rfl 3 rfl ?_
    refine vv_aload_n hC dX0_isTree_5 rfl 0 rfl ?_
    refine vv_getf hC hR hK fxX0_321_X0 0 (lx_0 S) rfl dX0_isTree_6 ?_
    refine vv_icmp_ge (tgt := 64) hC dX0_isTree_9 rfl (fun c1 => ?_) (fun c1 => ?_)
    · replace h := h.1 c1
      refine vv_iload_n hC dX0_isTree_64 rfl 2 rfl ?_
      exact vv_zret hC hM dX0_isTree_65 h.1 h.2
    · replace h := h.2 c1
      refine vv_iload_n hC dX0_isTree_12 rfl 2 rfl ?_
      refine vv_if_eq (tgt := 64) hC dX0_isTree_13 rfl (fun c2 => ?_) (fun c2 => ?_)
      · replace h := h.1 c2
        refine vv_iload_n hC dX0_isTree_64 rfl 2 rfl ?_
        exact vv_zret hC hM dX0_isTree_65 h.1 h.2
      · replace h := h.2 c2
        refine vv_iload_n hC dX0_isTree_16 rfl 3 rfl ?_
        refine vv_istore (lv' := [(4, .int v3), (0, .ref (ad 0)), (1, .int v1), (2, .int v2), (3, .int v3)]) hC dX0_isTree_17 (by decide) rfl ?_
        refine vv_iconst hC dX0_isTree_19 xic_0 ?_
        refine vv_istore (lv' := [(5, .int 0), (4, .int v3), (0, .ref (ad 0)), (1, .int v1), (2, .int v2), (3, .int v3)]) hC dX0_isTree_20 (by decide) rfl ?_
        refine vv_lv [2, 3, 5, 1, 0] rfl ?_
        exact L22 _ h4 _ _ _ _ _ h
  unfold w_X0_isTree at h
  refine vv_iconst hC dX0_isTree_0 xic_1 ?_
  refine vv_istore_n (lv' := [(2, .int 1), (0, .ref (ad 0)), (1, .int v1)]) hC dX0_isTree_1 rfl (by decide) rfl ?_
  refine vv_iconst hC dX0_isTree_2 xic_0 ?_
  refine vv_istore_n (lv' := [(3, .int 0), (2, .int 1), (0, .ref (ad 0)), (1, .int v1)]) hC dX0_isTree_3 rfl (by decide) rfl ?_
  refine vv_lv [2, 3, 1, 0] rfl ?_
  exact L4  _ _ _ _ h
def w_X0_changes (S : XS) (v1 : Int32) (v2 : Int32) (μ : WS) (Q : Int32 → WS → Prop) : Prop := (vp_in v1 7 ∧ (∃ b1 : Nat, μ.2.2 121 v1.toNatClampNeg = some b1 ∧ ((isFactR S 0 b1) ∧ (w_X1_turn S (μ.1 b1 2) μ (fun r3 μ2 => (vp_in v2 7 ∧ (∃ b4 : Nat, μ2.2.2 121 v2.toNatClampNeg = some b4 ∧ ((isFactR S 0 b4) ∧ (∀ x5 : Int32, x5 = μ2.1 b4 2 → (w_J15_bitCount S (r3 &&& (x5 ^^^ (-1))) μ2 (fun r7 μ6 => (w_J15_bitCount S (x5 &&& (r3 ^^^ (-1))) μ6 (fun r9 μ8 => Q (r7 + (2 * r9)) μ8)))))))))))))
abbrev rm_X0_changes : Room := { frames := 1, cells := 0, slots := 0, locals := 23 }
theorem mf_X0_changes : MFact yX0_changes 2 rm_X0_changes := ⟨by decide +kernel, rfl, rfl⟩
set_option maxHeartbeats 4000000 in
theorem met_X0_changes (l : Launch) (D : va_G) (ac : Nat → ClassId) (ad : Nat → Nat) (S : XS) (hLay : LayOk ad (knX S)) (v1 : Int32) (v2 : Int32) (μ : WS) (Q : Int32 → WS → Prop) (h : w_X0_changes S v1 v2 μ Q) : CMet l yX0_changes cX0_changes 5 (some .int) rm_X0_changes D ac ad (knX S) (ExX D ac ad S) [.ref (ad 0), .int v1, .int v2] μ (qI Q) := by
  refine vv_met (lv := [(0, .ref (ad 0)), (1, .int v1), (2, .int v2)]) (by decide) hLay exX_ok (Nat.le_of_ble_eq_true rfl) rfl ⟨rfl, rfl⟩ (fun C hC hK hRm hLl hR hM => ?_)
  subst hLl
  have hRo : RoomOk (HPW D ac ad (knX S) (ExX D ac ad S) (vS C)) (vR C) := HPW.room
  unfold w_X0_changes at h
  refine vv_aload_n hC dX0_changes_0 rfl 0 rfl ?_
  refine vv_getf hC hR hK fxX0_20_X0 0 (lx_0 S) rfl dX0_changes_1 ?_
  refine vv_aload_n hC dX0_changes_4 rfl 0 rfl ?_
  refine vv_getf hC hR hK fxX0_80_X0 0 (lx_0 S) rfl dX0_changes_5 ?_
  refine vv_iload_n hC dX0_changes_8 rfl 1 rfl ?_
  obtain ⟨hin358, h⟩ := h
  obtain ⟨b1, hb359, h⟩ := h
  refine vv_aald hC hR hK 121 (t := 7) rfl (by decide) rfl (lx_121 S) hin358 hb359 dX0_changes_9 ?_
  obtain ⟨hk360, h⟩ := h
  refine vv_getf hC hR hK fxX0_327_X12 b1 (kx_fact hk360) rfl dX0_changes_10 ?_
  refine vv_callVi hC hR hK hRo hRm [.int (μ.1 b1 2)] [] (met_X1_turn (vL C) D ac ad S hLay (μ.1 b1 2) μ _ h) gxX0_195 mf_X1_turn rfl (lx_104 S) rfl rfl rfl rfl dX0_changes_13 (fun r3 μ2 h => ?_)
  refine vv_istore_n (lv' := [(3, .int r3), (0, .ref (ad 0)), (1, .int v1), (2, .int v2)]) hC dX0_changes_16 rfl (by decide) rfl ?_
  refine vv_aload_n hC dX0_changes_17 rfl 1 rfl ?_
  refine vv_getf hC hR hK fxX0_80_X0 0 (lx_0 S) rfl dX0_changes_18 ?_
  refine vv_iload_n hC dX0_changes_21 rfl 3 rfl ?_
  obtain ⟨hin361, h⟩ := h
  obtain ⟨b4, hb362, h⟩ := h
  refine vv_aald hC hR hK 121 (t := 7) rfl (by decide) rfl (lx_121 S) hin361 hb362 dX0_changes_22 ?_
  obtain ⟨hk363, h⟩ := h
  refine vv_getf hC hR hK fxX0_327_X12 b4 (kx_fact hk363) rfl dX0_changes_23 ?_
  refine vv_topi (fun x5 ex5 => ?_)
  replace h := h x5 ex5
  refine vv_istore (lv' := [(4, .int x5), (3, .int r3), (0, .ref (ad 0)), (1, .int v1), (2, .int v2)]) hC dX0_changes_26 (by decide) rfl ?_
  refine vv_iload_n hC dX0_changes_28 rfl 1 rfl ?_
  refine vv_iload hC dX0_changes_29 0 rfl ?_
  refine vv_iconst hC dX0_changes_31 xic_m1 ?_
  refine vv_ixor hC dX0_changes_32 ?_
  refine vv_iand hC dX0_changes_33 ?_
  refine vv_callSi hC hR hK hRo hRm [.int (r3 &&& (x5 ^^^ (-1)))] [] (met_J15_bitCount (vL C) D ac ad S hLay (r3 &&& (x5 ^^^ (-1))) μ2 _ h) gxX0_240 mf_J15_bitCount rfl rfl rfl dX0_changes_34 (fun r7 μ6 h => ?_)
  refine vv_iconst hC dX0_changes_37 xic_2 ?_
  refine vv_iload hC dX0_changes_38 0 rfl ?_
  refine vv_iload_n hC dX0_changes_40 rfl 1 rfl ?_
  refine vv_iconst hC dX0_changes_41 xic_m1 ?_
  refine vv_ixor hC dX0_changes_42 ?_
  refine vv_iand hC dX0_changes_43 ?_
  refine vv_callSi hC hR hK hRo hRm [.int (x5 &&& (r3 ^^^ (-1)))] [.int 2, .int r7] (met_J15_bitCount (vL C) D ac ad S hLay (x5 &&& (r3 ^^^ (-1))) μ6 _ h) gxX0_240 mf_J15_bitCount rfl rfl rfl dX0_changes_44 (fun r9 μ8 h => ?_)
  refine vv_imul hC dX0_changes_47 ?_
  refine vv_iadd hC dX0_changes_48 ?_
  exact vv_iret hC hM dX0_changes_49 h
def w_X0_allChanges_33 (S : XS) (P4 : Int32 → Int32 → Int32 → WS → Prop) (s0 : Int32) (s1 : Int32) (v1 : Int32) (v3 : Int32) (μ : WS) (Q : Int32 → WS → Prop) : Prop := (∀ x5 : Int32, x5 = s1 + s0 → P4 v1 x5 (v3 + 1) μ)
def w_X0_allChanges_4b (S : XS) (P4 : Int32 → Int32 → Int32 → WS → Prop) (v1 : Int32) (v2 : Int32) (v3 : Int32) (μ : WS) (Q : Int32 → WS → Prop) : Prop := ((μ.1 0 24 ≤ v3) → Q v2 μ) ∧ ((¬ μ.1 0 24 ≤ v3) → ((¬ v3 = v1) → (vp_in v3 7 ∧ (w_X0_changes S (μ.1 122 v3.toNatClampNeg) v3 μ (fun r4 μ3 => w_X0_allChanges_33 S P4 r4 v2 v1 v3 μ3 Q)))) ∧ ((v3 = v1) → w_X0_allChanges_33 S P4 0 v2 v1 v3 μ Q))
def w_X0_allChanges_4 (S : XS) (v1 : Int32) (v2 : Int32) (v3 : Int32) (μ : WS) (Q : Int32 → WS → Prop) : Prop := ∀ P4 : Int32 → Int32 → Int32 → WS → Prop, (∀ (v1 : Int32) (v2 : Int32) (v3 : Int32) (μ : WS), w_X0_allChanges_4b S  P4 v1 v2 v3 μ Q → P4 v1 v2 v3 μ) → P4 v1 v2 v3 μ
def w_X0_allChanges (S : XS) (v1 : Int32) (μ : WS) (Q : Int32 → WS → Prop) : Prop := w_X0_allChanges_4 S v1 0 0 μ Q
abbrev rm_X0_allChanges : Room := { frames := 2, cells := 0, slots := 0, locals := 47 }
theorem mf_X0_allChanges : MFact yX0_allChanges 1 rm_X0_allChanges := ⟨by decide +kernel, rfl, rfl⟩
set_option maxHeartbeats 4000000 in
theorem met_X0_allChanges (l : Launch) (D : va_G) (ac : Nat → ClassId) (ad : Nat → Nat) (S : XS) (hLay : LayOk ad (knX S)) (v1 : Int32) (μ : WS) (Q : Int32 → WS → Prop) (h : w_X0_allChanges S v1 μ Q) : CMet l yX0_allChanges cX0_allChanges 4 (some .int) rm_X0_allChanges D ac ad (knX S) (ExX D ac ad S) [.ref (ad 0), .int v1] μ (qI Q) := by
  refine vv_met (lv := [(0, .ref (ad 0)), (1, .int v1)]) (by decide) hLay exX_ok (Nat.le_of_ble_eq_true rfl) rfl ⟨rfl, rfl⟩ (fun C hC hK hRm hLl hR hM => ?_)
  subst hLl
  have hRo : RoomOk (HPW D ac ad (knX S) (ExX D ac ad S) (vS C)) (vR C) := HPW.room
  have L33 : ∀ (P4 : Int32 → Int32 → Int32 → WS → Prop) (h4 : ∀ (v1 : Int32) (v2 : Int32) (v3 : Int32) (μ : WS), P4 v1 v2 v3 μ → VV C 4 (HPW D ac ad (knX S) (ExX D ac ad S) (vS C)) (vQ C (QcW D ac ad (knX S) (qI Q)) 0 0 (inLay ad (knX S))) (μ, ()) 4 [(0, .ref (ad 0)), (1, .int v1), (2, .int v2), (3, .int v3)] []) (s0 : Int32) (s1 : Int32) (v1 : Int32) (v3 : Int32) (μ : WS), w_X0_allChanges_33 S P4 s0 s1 v1 v3 μ Q → VV C 4 (HPW D ac ad (knX S) (ExX D ac ad S) (vS C)) (vQ C (QcW D ac ad (knX S) (qI Q)) 0 0 (inLay ad (knX S))) (μ, ()) 33 [(0, .ref (ad 0)), (1, .int v1), (3, .int v3)] [.int s0, .int s1] := by
    intro P4 h4 s0 s1 v1 v3 μ h
    unfold w_X0_allChanges_33 at h
    refine vv_iadd hC dX0_allChanges_33 ?_
    refine vv_topi (fun x5 ex5 => ?_)
    replace h := h x5 ex5
    refine vv_istore_n (lv' := [(2, .int x5), (0, .ref (ad 0)), (1, .int v1), (3, .int v3)]) hC dX0_allChanges_34 rfl (by decide) rfl ?_
    refine vv_iinc (pl := 3) (v := v3 + 1) (lv' := [(3, .int (v3 + 1)), (2, .int x5), (0, .ref (ad 0)), (1, .int v1)]) hC dX0_allChanges_35 rfl rfl (by decide) rfl ?_
    refine vv_goto (tgt := 4) hC dX0_allChanges_38 rfl ?_
    refine vv_lv [2, 3, 1, 0] rfl ?_
    exact h4 _ _ _ _ h
  have L4 : ∀ (v1 : Int32) (v2 : Int32) (v3 : Int32) (μ : WS), w_X0_allChanges_4 S  v1 v2 v3 μ Q → VV C 4 (HPW D ac ad (knX S) (ExX D ac ad S) (vS C)) (vQ C (QcW D ac ad (knX S) (qI Q)) 0 0 (inLay ad (knX S))) (μ, ()) 4 [(0, .ref (ad 0)), (1, .int v1), (2, .int v2), (3, .int v3)] [] := by
    intro  v1 v2 v3 μ h
    refine h (fun v1 v2 v3 μ => VV C 4 (HPW D ac ad (knX S) (ExX D ac ad S) (vS C)) (vQ C (QcW D ac ad (knX S) (qI Q)) 0 0 (inLay ad (knX S))) (μ, ()) 4 [(0, .ref (ad 0)), (1, .int v1), (2, .int v2), (3, .int v3)] []) ?_
    clear h; intro v1 v2 v3 μ h
    have h4 : ∀ (v1 : Int32) (v2 : Int32) (v3 : Int32) (μ : WS), (fun v1 v2 v3 (μ : WS) => VV C 4 (HPW D ac ad (knX S) (ExX D ac ad S) (vS C)) (vQ C (QcW D ac ad (knX S) (qI Q)) 0 0 (inLay ad (knX S))) (μ, ()) 4 [(0, .ref (ad 0)), (1, .int v1), (2, .int v2), (3, .int v3)] []) v1 v2 v3 μ → VV C 4 (HPW D ac ad (knX S) (ExX D ac ad S) (vS C)) (vQ C (QcW D ac ad (knX S) (qI Q)) 0 0 (inLay ad (knX S))) (μ, ()) 4 [(0, .ref (ad 0)), (1, .int v1), (2, .int v2), (3, .int v3)] [] := fun _ _ _ _ h => h
    unfold w_X0_allChanges_4b at h
    refine vv_iload_n hC dX0_allChanges_4 rfl 3 rfl ?_
    refine vv_aload_n hC dX0_allChanges_5 rfl 0 rfl ?_
    refine vv_getf hC hR hK fxX0_321_X0 0 (lx_0 S) rfl dX0_allChanges_6 ?_
    refine vv_icmp_ge (tgt := 41) hC dX0_allChanges_9 rfl (fun c1 => ?_) (fun c1 => ?_)
    · replace h := h.1 c1
      refine vv_iload_n hC dX0_allChanges_41 rfl 2 rfl ?_
      exact vv_iret hC hM dX0_allChanges_42 h
    · replace h := h.2 c1
      refine vv_iload_n hC dX0_allChanges_12 rfl 2 rfl ?_
      refine vv_iload_n hC dX0_allChanges_13 rfl 3 rfl ?_
      refine vv_iload_n hC dX0_allChanges_14 rfl 1 rfl ?_
      refine vv_icmp_ne (tgt := 22) hC dX0_allChanges_15 rfl (fun c2 => ?_) (fun c2 => ?_)
      · replace h := h.1 c2
        refine vv_aload_n hC dX0_allChanges_22 rfl 0 rfl ?_
        refine vv_aload_n hC dX0_allChanges_23 rfl 0 rfl ?_
        refine vv_getf hC hR hK fxX0_84_X0 0 (lx_0 S) rfl dX0_allChanges_24 ?_
        refine vv_iload_n hC dX0_allChanges_27 rfl 3 rfl ?_
        obtain ⟨hin364, h⟩ := h
        refine vv_iald hC hR hK 122 (lx_122 S) hin364 dX0_allChanges_28 ?_
        refine vv_iload_n hC dX0_allChanges_29 rfl 3 rfl ?_
        refine vv_callVi hC hR hK hRo hRm [.int (μ.1 122 v3.toNatClampNeg), .int v3] [.int v2] (met_X0_changes (vL C) D ac ad S hLay (μ.1 122 v3.toNatClampNeg) v3 μ _ h) gxX0_329 mf_X0_changes rfl (lx_0 S) rfl rfl rfl rfl dX0_allChanges_30 (fun r4 μ3 h => ?_)
        refine vv_lv [0, 1, 3] rfl ?_
        exact L33 _ h4 _ _ _ _ _ h
      · replace h := h.2 c2
        refine vv_iconst hC dX0_allChanges_18 xic_0 ?_
        refine vv_goto (tgt := 33) hC dX0_allChanges_19 rfl ?_
        refine vv_lv [0, 1, 3] rfl ?_
        exact L33 _ h4 _ _ _ _ _ h
  unfold w_X0_allChanges at h
  refine vv_iconst hC dX0_allChanges_0 xic_0 ?_
  refine vv_istore_n (lv' := [(2, .int 0), (0, .ref (ad 0)), (1, .int v1)]) hC dX0_allChanges_1 rfl (by decide) rfl ?_
  refine vv_iconst hC dX0_allChanges_2 xic_0 ?_
  refine vv_istore_n (lv' := [(3, .int 0), (2, .int 0), (0, .ref (ad 0)), (1, .int v1)]) hC dX0_allChanges_3 rfl (by decide) rfl ?_
  refine vv_lv [2, 3, 1, 0] rfl ?_
  exact L4  _ _ _ _ h
def w_X0_layTrees_129 (S : XS) (P39 : Int32 → Int32 → Int32 → WS → Prop) (v1 : Int32) (v2 : Int32) (v3 : Int32) (μ : WS) (Q : WS → Prop) : Prop := P39 v1 v2 (v3 + 1) μ
def w_X0_layTrees_125 (S : XS) (P39 : Int32 → Int32 → Int32 → WS → Prop) (s0 : Int32) (s1 : Int32) (v1 : Int32) (v2 : Int32) (v3 : Int32) (μ : WS) (Q : WS → Prop) : Prop := (∀ μ19 : WS, μ19 = wset μ 0 26 (s1 + s0) → w_X0_layTrees_129 S P39 v1 v2 v3 μ19 Q)
def w_X0_layTrees_106 (S : XS) (P39 : Int32 → Int32 → Int32 → WS → Prop) (v1 : Int32) (v2 : Int32) (v3 : Int32) (v4 : Int32) (μ : WS) (Q : WS → Prop) : Prop := ((¬ v4 = μ.1 0 25) → w_X0_layTrees_125 S P39 0 (μ.1 0 26) v1 v2 v3 μ Q) ∧ ((v4 = μ.1 0 25) → w_X0_layTrees_125 S P39 1 (μ.1 0 26) v1 v2 v3 μ Q)
def w_X0_layTrees_39b (S : XS) (P39 : Int32 → Int32 → Int32 → WS → Prop) (v1 : Int32) (v2 : Int32) (v3 : Int32) (μ : WS) (Q : WS → Prop) : Prop := ((v2 ≤ v3) → Q μ) ∧ ((¬ v2 ≤ v3) → (w_X0_layFrom S v3 v1 μ (fun r7 μ6 => ((r7 = 0) → w_X0_layTrees_129 S P39 v1 v2 v3 μ6 Q) ∧ ((¬ r7 = 0) → (w_X0_isTree S v1 μ6 (fun r10 μ9 => ((¬ r10 = 0) → (w_X0_allChanges S v1 μ9 (fun r13 μ12 => ((μ12.1 0 25 ≤ r13) → w_X0_layTrees_106 S P39 v1 v2 v3 r13 μ12 Q) ∧ ((¬ μ12.1 0 25 ≤ r13) → (∀ μ15 : WS, μ15 = wset μ12 0 25 r13 → (∀ μ16 : WS, μ16 = wset μ15 0 26 0 → (∀ μ17 : WS, μ17 = wcpy μ16 122 123 0 0 7 → w_X0_layTrees_106 S P39 v1 v2 v3 r13 μ17 Q))))))) ∧ ((r10 = 0) → w_X0_layTrees_129 S P39 v1 v2 v3 μ9 Q)))))))
def w_X0_layTrees_39 (S : XS) (v1 : Int32) (v2 : Int32) (v3 : Int32) (μ : WS) (Q : WS → Prop) : Prop := ∀ P39 : Int32 → Int32 → Int32 → WS → Prop, (∀ (v1 : Int32) (v2 : Int32) (v3 : Int32) (μ : WS), w_X0_layTrees_39b S  P39 v1 v2 v3 μ Q → P39 v1 v2 v3 μ) → P39 v1 v2 v3 μ
def w_X0_layTrees_16b (S : XS) (P16 : Int32 → Int32 → Int32 → WS → Prop) (v1 : Int32) (v2 : Int32) (v3 : Int32) (μ : WS) (Q : WS → Prop) : Prop := ((μ.1 0 24 ≤ v3) → w_X0_layTrees_39 S v1 v2 0 μ Q) ∧ ((¬ μ.1 0 24 ≤ v3) → (∀ x4 : Int32, x4 = v2 * (μ.1 0 24) → P16 v1 x4 (v3 + 1) μ))
def w_X0_layTrees_16 (S : XS) (v1 : Int32) (v2 : Int32) (v3 : Int32) (μ : WS) (Q : WS → Prop) : Prop := ∀ P16 : Int32 → Int32 → Int32 → WS → Prop, (∀ (v1 : Int32) (v2 : Int32) (v3 : Int32) (μ : WS), w_X0_layTrees_16b S  P16 v1 v2 v3 μ Q → P16 v1 v2 v3 μ) → P16 v1 v2 v3 μ
def w_X0_layTrees (S : XS) (v1 : Int32) (μ : WS) (Q : WS → Prop) : Prop := (∀ μ1 : WS, μ1 = wset μ 0 25 1000000 → (∀ μ2 : WS, μ2 = wset μ1 0 26 0 → w_X0_layTrees_16 S v1 1 1 μ2 Q))
abbrev rm_X0_layTrees : Room := { frames := 3, cells := 0, slots := 0, locals := 70 }
theorem mf_X0_layTrees : MFact yX0_layTrees 1 rm_X0_layTrees := ⟨by decide +kernel, rfl, rfl⟩
set_option maxHeartbeats 4000000 in
theorem met_X0_layTrees (l : Launch) (D : va_G) (ac : Nat → ClassId) (ad : Nat → Nat) (S : XS) (hLay : LayOk ad (knX S)) (v1 : Int32) (μ : WS) (Q : WS → Prop) (h : w_X0_layTrees S v1 μ Q) : CMet l yX0_layTrees cX0_layTrees 5 none rm_X0_layTrees D ac ad (knX S) (ExX D ac ad S) [.ref (ad 0), .int v1] μ (qV Q) := by
  refine vv_met (lv := [(0, .ref (ad 0)), (1, .int v1)]) (by decide) hLay exX_ok (Nat.le_of_ble_eq_true rfl) rfl ⟨rfl, rfl⟩ (fun C hC hK hRm hLl hR hM => ?_)
  subst hLl
  have hRo : RoomOk (HPW D ac ad (knX S) (ExX D ac ad S) (vS C)) (vR C) := HPW.room
  have L129 : ∀ (P39 : Int32 → Int32 → Int32 → WS → Prop) (h39 : ∀ (v1 : Int32) (v2 : Int32) (v3 : Int32) (μ : WS), P39 v1 v2 v3 μ → VV C 5 (HPW D ac ad (knX S) (ExX D ac ad S) (vS C)) (vQ C (QcW D ac ad (knX S) (qV Q)) 0 0 (inLay ad (knX S))) (μ, ()) 39 [(0, .ref (ad 0)), (1, .int v1), (2, .int v2), (3, .int v3)] []) (v1 : Int32) (v2 : Int32) (v3 : Int32) (μ : WS), w_X0_layTrees_129 S P39 v1 v2 v3 μ Q → VV C 5 (HPW D ac ad (knX S) (ExX D ac ad S) (vS C)) (vQ C (QcW D ac ad (knX S) (qV Q)) 0 0 (inLay ad (knX S))) (μ, ()) 129 [(0, .ref (ad 0)), (1, .int v1), (2, .int v2), (3, .int v3)] [] := by
    intro P39 h39 v1 v2 v3 μ h
    unfold w_X0_layTrees_129 at h
    refine vv_iinc (pl := 3) (v := v3 + 1) (lv' := [(3, .int (v3 + 1)), (0, .ref (ad 0)), (1, .int v1), (2, .int v2)]) hC dX0_layTrees_129 rfl rfl (by decide) rfl ?_
    refine vv_goto (tgt := 39) hC dX0_layTrees_132 rfl ?_
    refine vv_lv [1, 2, 3, 0] rfl ?_
    exact h39 _ _ _ _ h
  have L125 : ∀ (P39 : Int32 → Int32 → Int32 → WS → Prop) (h39 : ∀ (v1 : Int32) (v2 : Int32) (v3 : Int32) (μ : WS), P39 v1 v2 v3 μ → VV C 5 (HPW D ac ad (knX S) (ExX D ac ad S) (vS C)) (vQ C (QcW D ac ad (knX S) (qV Q)) 0 0 (inLay ad (knX S))) (μ, ()) 39 [(0, .ref (ad 0)), (1, .int v1), (2, .int v2), (3, .int v3)] []) (s0 : Int32) (s1 : Int32) (v1 : Int32) (v2 : Int32) (v3 : Int32) (μ : WS), w_X0_layTrees_125 S P39 s0 s1 v1 v2 v3 μ Q → VV C 5 (HPW D ac ad (knX S) (ExX D ac ad S) (vS C)) (vQ C (QcW D ac ad (knX S) (qV Q)) 0 0 (inLay ad (knX S))) (μ, ()) 125 [(0, .ref (ad 0)), (1, .int v1), (2, .int v2), (3, .int v3)] [.int s0, .int s1, .ref (ad 0)] := by
    intro P39 h39 s0 s1 v1 v2 v3 μ h
    unfold w_X0_layTrees_125 at h
    refine vv_iadd hC dX0_layTrees_125 ?_
    refine vv_puti hC hR hK fxX0_335_X0 0 (lx_0 S) rfl rfl rfl dX0_layTrees_126 ?_
    refine vv_st (fun y e => ?_)
    obtain ⟨μ19, _⟩ := y
    have eμ19 := congrArg Prod.fst e
    clear e
    replace h := h μ19 eμ19
    exact L129 _ h39 _ _ _ _ h
  have L106 : ∀ (P39 : Int32 → Int32 → Int32 → WS → Prop) (h39 : ∀ (v1 : Int32) (v2 : Int32) (v3 : Int32) (μ : WS), P39 v1 v2 v3 μ → VV C 5 (HPW D ac ad (knX S) (ExX D ac ad S) (vS C)) (vQ C (QcW D ac ad (knX S) (qV Q)) 0 0 (inLay ad (knX S))) (μ, ()) 39 [(0, .ref (ad 0)), (1, .int v1), (2, .int v2), (3, .int v3)] []) (v1 : Int32) (v2 : Int32) (v3 : Int32) (v4 : Int32) (μ : WS), w_X0_layTrees_106 S P39 v1 v2 v3 v4 μ Q → VV C 5 (HPW D ac ad (knX S) (ExX D ac ad S) (vS C)) (vQ C (QcW D ac ad (knX S) (qV Q)) 0 0 (inLay ad (knX S))) (μ, ()) 106 [(0, .ref (ad 0)), (1, .int v1), (2, .int v2), (3, .int v3), (4, .int v4)] [] := by
    intro P39 h39 v1 v2 v3 v4 μ h
    unfold w_X0_layTrees_106 at h
    refine vv_aload_n hC dX0_layTrees_106 rfl 0 rfl ?_
    refine vv_dup hC dX0_layTrees_107 rfl ?_
    refine vv_getf hC hR hK fxX0_335_X0 0 (lx_0 S) rfl dX0_layTrees_108 ?_
    refine vv_iload hC dX0_layTrees_111 4 rfl ?_
    refine vv_aload_n hC dX0_layTrees_113 rfl 0 rfl ?_
    refine vv_getf hC hR hK fxX0_332_X0 0 (lx_0 S) rfl dX0_layTrees_114 ?_
    refine vv_icmp_ne (tgt := 124) hC dX0_layTrees_117 rfl (fun c18 => ?_) (fun c18 => ?_)
    · replace h := h.1 c18
      refine vv_iconst hC dX0_layTrees_124 xic_0 ?_
      refine vv_lv [0, 1, 2, 3] rfl ?_
      exact L125 _ h39 _ _ _ _ _ _ h
    · replace h := h.2 c18
      refine vv_iconst hC dX0_layTrees_120 xic_1 ?_
      refine vv_goto (tgt := 125) hC dX0_layTrees_121 rfl ?_
      refine vv_lv [0, 1, 2, 3] rfl ?_
      exact L125 _ h39 _ _ _ _ _ _ h
  have L39 : ∀ (v1 : Int32) (v2 : Int32) (v3 : Int32) (μ : WS), w_X0_layTrees_39 S  v1 v2 v3 μ Q → VV C 5 (HPW D ac ad (knX S) (ExX D ac ad S) (vS C)) (vQ C (QcW D ac ad (knX S) (qV Q)) 0 0 (inLay ad (knX S))) (μ, ()) 39 [(0, .ref (ad 0)), (1, .int v1), (2, .int v2), (3, .int v3)] [] := by
    intro  v1 v2 v3 μ h
    refine h (fun v1 v2 v3 μ => VV C 5 (HPW D ac ad (knX S) (ExX D ac ad S) (vS C)) (vQ C (QcW D ac ad (knX S) (qV Q)) 0 0 (inLay ad (knX S))) (μ, ()) 39 [(0, .ref (ad 0)), (1, .int v1), (2, .int v2), (3, .int v3)] []) ?_
    clear h; intro v1 v2 v3 μ h
    have h39 : ∀ (v1 : Int32) (v2 : Int32) (v3 : Int32) (μ : WS), (fun v1 v2 v3 (μ : WS) => VV C 5 (HPW D ac ad (knX S) (ExX D ac ad S) (vS C)) (vQ C (QcW D ac ad (knX S) (qV Q)) 0 0 (inLay ad (knX S))) (μ, ()) 39 [(0, .ref (ad 0)), (1, .int v1), (2, .int v2), (3, .int v3)] []) v1 v2 v3 μ → VV C 5 (HPW D ac ad (knX S) (ExX D ac ad S) (vS C)) (vQ C (QcW D ac ad (knX S) (qV Q)) 0 0 (inLay ad (knX S))) (μ, ()) 39 [(0, .ref (ad 0)), (1, .int v1), (2, .int v2), (3, .int v3)] [] := fun _ _ _ _ h => h
    unfold w_X0_layTrees_39b at h
    refine vv_iload_n hC dX0_layTrees_39 rfl 3 rfl ?_
    refine vv_iload_n hC dX0_layTrees_40 rfl 2 rfl ?_
    refine vv_icmp_ge (tgt := 135) hC dX0_layTrees_41 rfl (fun c5 => ?_) (fun c5 => ?_)
    · replace h := h.1 c5
      exact vv_vret hC hM dX0_layTrees_135 h
    · replace h := h.2 c5
      refine vv_aload_n hC dX0_layTrees_44 rfl 0 rfl ?_
      refine vv_iload_n hC dX0_layTrees_45 rfl 3 rfl ?_
      refine vv_iload_n hC dX0_layTrees_46 rfl 1 rfl ?_
      refine vv_callVi hC hR hK hRo hRm [.int v3, .int v1] [] (met_X0_layFrom (vL C) D ac ad S hLay v3 v1 μ _ h) gxX0_338 mf_X0_layFrom rfl (lx_0 S) rfl rfl rfl rfl dX0_layTrees_47 (fun r7 μ6 h => ?_)
      refine vv_if_eq (tgt := 129) hC dX0_layTrees_50 rfl (fun c8 => ?_) (fun c8 => ?_)
      · replace h := h.1 c8
        exact L129 _ h39 _ _ _ _ h
      · replace h := h.2 c8
        refine vv_aload_n hC dX0_layTrees_53 rfl 0 rfl ?_
        refine vv_iload_n hC dX0_layTrees_54 rfl 1 rfl ?_
        refine vv_callVi hC hR hK hRo hRm [.int v1] [] (met_X0_isTree (vL C) D ac ad S hLay v1 μ6 _ h) gxX0_341 mf_X0_isTree rfl (lx_0 S) rfl rfl rfl rfl dX0_layTrees_55 (fun r10 μ9 h => ?_)
        refine vv_if_ne (tgt := 64) hC dX0_layTrees_58 rfl (fun c11 => ?_) (fun c11 => ?_)
        · replace h := h.1 c11
          refine vv_aload_n hC dX0_layTrees_64 rfl 0 rfl ?_
          refine vv_iload_n hC dX0_layTrees_65 rfl 1 rfl ?_
          refine vv_callVi hC hR hK hRo hRm [.int v1] [] (met_X0_allChanges (vL C) D ac ad S hLay v1 μ9 _ h) gxX0_344 mf_X0_allChanges rfl (lx_0 S) rfl rfl rfl rfl dX0_layTrees_66 (fun r13 μ12 h => ?_)
          refine vv_istore (lv' := [(4, .int r13), (0, .ref (ad 0)), (1, .int v1), (2, .int v2), (3, .int v3)]) hC dX0_layTrees_69 (by decide) rfl ?_
          refine vv_iload hC dX0_layTrees_71 0 rfl ?_
          refine vv_aload_n hC dX0_layTrees_73 rfl 1 rfl ?_
          refine vv_getf hC hR hK fxX0_332_X0 0 (lx_0 S) rfl dX0_layTrees_74 ?_
          refine vv_icmp_ge (tgt := 106) hC dX0_layTrees_77 rfl (fun c14 => ?_) (fun c14 => ?_)
          · replace h := h.1 c14
            refine vv_lv [1, 2, 3, 4, 0] rfl ?_
            exact L106 _ h39 _ _ _ _ _ h
          · replace h := h.2 c14
            refine vv_aload_n hC dX0_layTrees_80 rfl 1 rfl ?_
            refine vv_iload hC dX0_layTrees_81 0 rfl ?_
            refine vv_puti hC hR hK fxX0_332_X0 0 (lx_0 S) rfl rfl rfl dX0_layTrees_83 ?_
            refine vv_st (fun y e => ?_)
            obtain ⟨μ15, _⟩ := y
            have eμ15 := congrArg Prod.fst e
            clear e
            replace h := h μ15 eμ15
            refine vv_aload_n hC dX0_layTrees_86 rfl 1 rfl ?_
            refine vv_iconst hC dX0_layTrees_87 xic_0 ?_
            refine vv_puti hC hR hK fxX0_335_X0 0 (lx_0 S) rfl rfl rfl dX0_layTrees_88 ?_
            refine vv_st (fun y e => ?_)
            obtain ⟨μ16, _⟩ := y
            have eμ16 := congrArg Prod.fst e
            clear e
            replace h := h μ16 eμ16
            refine vv_aload_n hC dX0_layTrees_91 rfl 1 rfl ?_
            refine vv_getf hC hR hK fxX0_84_X0 0 (lx_0 S) rfl dX0_layTrees_92 ?_
            refine vv_iconst hC dX0_layTrees_95 xic_0 ?_
            refine vv_aload_n hC dX0_layTrees_96 rfl 1 rfl ?_
            refine vv_getf hC hR hK fxX0_87_X0 0 (lx_0 S) rfl dX0_layTrees_97 ?_
            refine vv_iconst hC dX0_layTrees_100 xic_0 ?_
            refine vv_bipush hC dX0_layTrees_101 xbp_7 ?_
            refine vv_acpyi hC hR hK cwX0_210 122 123 (lx_122 S) (lx_123 S) (by decide) (by decide) (by decide) (by decide) (by decide) (by rw [hRm]; exact ⟨by decide, by decide +kernel⟩) dX0_layTrees_103 ?_
            refine vv_st (fun y e => ?_)
            obtain ⟨μ17, _⟩ := y
            have eμ17 := congrArg Prod.fst e
            clear e
            replace h := h μ17 eμ17
            refine vv_lv [1, 2, 3, 4, 0] rfl ?_
            exact L106 _ h39 _ _ _ _ _ h
        · replace h := h.2 c11
          refine vv_goto (tgt := 129) hC dX0_layTrees_61 rfl ?_
          exact L129 _ h39 _ _ _ _ h
  have L16 : ∀ (v1 : Int32) (v2 : Int32) (v3 : Int32) (μ : WS), w_X0_layTrees_16 S  v1 v2 v3 μ Q → VV C 5 (HPW D ac ad (knX S) (ExX D ac ad S) (vS C)) (vQ C (QcW D ac ad (knX S) (qV Q)) 0 0 (inLay ad (knX S))) (μ, ()) 16 [(0, .ref (ad 0)), (1, .int v1), (2, .int v2), (3, .int v3)] [] := by
    intro  v1 v2 v3 μ h
    refine h (fun v1 v2 v3 μ => VV C 5 (HPW D ac ad (knX S) (ExX D ac ad S) (vS C)) (vQ C (QcW D ac ad (knX S) (qV Q)) 0 0 (inLay ad (knX S))) (μ, ()) 16 [(0, .ref (ad 0)), (1, .int v1), (2, .int v2), (3, .int v3)] []) ?_
    clear h; intro v1 v2 v3 μ h
    have h16 : ∀ (v1 : Int32) (v2 : Int32) (v3 : Int32) (μ : WS), (fun v1 v2 v3 (μ : WS) => VV C 5 (HPW D ac ad (knX S) (ExX D ac ad S) (vS C)) (vQ C (QcW D ac ad (knX S) (qV Q)) 0 0 (inLay ad (knX S))) (μ, ()) 16 [(0, .ref (ad 0)), (1, .int v1), (2, .int v2), (3, .int v3)] []) v1 v2 v3 μ → VV C 5 (HPW D ac ad (knX S) (ExX D ac ad S) (vS C)) (vQ C (QcW D ac ad (knX S) (qV Q)) 0 0 (inLay ad (knX S))) (μ, ()) 16 [(0, .ref (ad 0)), (1, .int v1), (2, .int v2), (3, .int v3)] [] := fun _ _ _ _ h => h
    unfold w_X0_layTrees_16b at h
    refine vv_iload_n hC dX0_layTrees_16 rfl 3 rfl ?_
    refine vv_aload_n hC dX0_layTrees_17 rfl 0 rfl ?_
    refine vv_getf hC hR hK fxX0_321_X0 0 (lx_0 S) rfl dX0_layTrees_18 ?_
    refine vv_icmp_ge (tgt := 37) hC dX0_layTrees_21 rfl (fun c3 => ?_) (fun c3 => ?_)
    · replace h := h.1 c3
      refine vv_iconst hC dX0_layTrees_37 xic_0 ?_
      refine vv_istore_n (lv' := [(3, .int 0), (0, .ref (ad 0)), (1, .int v1), (2, .int v2)]) hC dX0_layTrees_38 rfl (by decide) rfl ?_
      refine vv_lv [1, 2, 3, 0] rfl ?_
      exact L39  _ _ _ _ h
    · replace h := h.2 c3
      refine vv_iload_n hC dX0_layTrees_24 rfl 2 rfl ?_
      refine vv_aload_n hC dX0_layTrees_25 rfl 0 rfl ?_
      refine vv_getf hC hR hK fxX0_321_X0 0 (lx_0 S) rfl dX0_layTrees_26 ?_
      refine vv_imul hC dX0_layTrees_29 ?_
      refine vv_topi (fun x4 ex4 => ?_)
      replace h := h x4 ex4
      refine vv_istore_n (lv' := [(2, .int x4), (0, .ref (ad 0)), (1, .int v1), (3, .int v3)]) hC dX0_layTrees_30 rfl (by decide) rfl ?_
      refine vv_iinc (pl := 3) (v := v3 + 1) (lv' := [(3, .int (v3 + 1)), (2, .int x4), (0, .ref (ad 0)), (1, .int v1)]) hC dX0_layTrees_31 rfl rfl (by decide) rfl ?_
      refine vv_goto (tgt := 16) hC dX0_layTrees_34 rfl ?_
      refine vv_lv [2, 3, 1, 0] rfl ?_
      exact h16 _ _ _ _ h
  unfold w_X0_layTrees at h
  refine vv_aload_n hC dX0_layTrees_0 rfl 0 rfl ?_
  refine vv_ldcw hC q1337 dX0_layTrees_1 ?_
  refine vv_puti hC hR hK fxX0_332_X0 0 (lx_0 S) rfl rfl rfl dX0_layTrees_4 ?_
  refine vv_st (fun y e => ?_)
  obtain ⟨μ1, _⟩ := y
  have eμ1 := congrArg Prod.fst e
  clear e
  replace h := h μ1 eμ1
  refine vv_aload_n hC dX0_layTrees_7 rfl 0 rfl ?_
  refine vv_iconst hC dX0_layTrees_8 xic_0 ?_
  refine vv_puti hC hR hK fxX0_335_X0 0 (lx_0 S) rfl rfl rfl dX0_layTrees_9 ?_
  refine vv_st (fun y e => ?_)
  obtain ⟨μ2, _⟩ := y
  have eμ2 := congrArg Prod.fst e
  clear e
  replace h := h μ2 eμ2
  refine vv_iconst hC dX0_layTrees_12 xic_1 ?_
  refine vv_istore_n (lv' := [(2, .int 1), (0, .ref (ad 0)), (1, .int v1)]) hC dX0_layTrees_13 rfl (by decide) rfl ?_
  refine vv_iconst hC dX0_layTrees_14 xic_1 ?_
  refine vv_istore_n (lv' := [(3, .int 1), (2, .int 1), (0, .ref (ad 0)), (1, .int v1)]) hC dX0_layTrees_15 rfl (by decide) rfl ?_
  refine vv_lv [2, 3, 1, 0] rfl ?_
  exact L16  _ _ _ _ h
def w_X0_tree_70 (S : XS) (P43 : Int32 → Int32 → Int32 → WS → Prop) (s0 : Int32) (v1 : Int32) (v2 : Int32) (v4 : Int32) (μ : WS) (Q : Int32 → WS → Prop) : Prop := (w_X0_put S s0 μ (fun μ15 => P43 v1 v2 (v4 + 1) μ15))
def w_X0_tree_43b (S : XS) (P43 : Int32 → Int32 → Int32 → WS → Prop) (v1 : Int32) (v2 : Int32) (v4 : Int32) (μ : WS) (Q : Int32 → WS → Prop) : Prop := ((μ.1 0 24 ≤ v4) → ((¬ v2 = 0) → Q (μ.1 0 26) μ) ∧ ((v2 = 0) → Q (μ.1 0 25) μ)) ∧ ((¬ μ.1 0 24 ≤ v4) → ((¬ v4 = v1) → (vp_in v4 7 ∧ w_X0_tree_70 S P43 (μ.1 123 v4.toNatClampNeg) v1 v2 v4 μ Q)) ∧ ((v4 = v1) → w_X0_tree_70 S P43 (-1) v1 v2 v4 μ Q))
def w_X0_tree_43 (S : XS) (v1 : Int32) (v2 : Int32) (v4 : Int32) (μ : WS) (Q : Int32 → WS → Prop) : Prop := ∀ P43 : Int32 → Int32 → Int32 → WS → Prop, (∀ (v1 : Int32) (v2 : Int32) (v4 : Int32) (μ : WS), w_X0_tree_43b S  P43 v1 v2 v4 μ Q → P43 v1 v2 v4 μ) → P43 v1 v2 v4 μ
def w_X0_tree (S : XS) (v1 : Int32) (v2 : Int32) (v3 : Int32) (μ : WS) (Q : Int32 → WS → Prop) : Prop := (∀ μ1 : WS, μ1 = wset μ 0 16 0 → (w_X0_laySamples S v3 μ1 (fun μ2 => (w_X0_isIn S v1 0 ((μ2.1 0 24) - 1) μ2 (fun r5 μ4 => ((r5 = 0) → Q (-1) μ4) ∧ ((¬ r5 = 0) → (w_X0_isIn S v2 0 1 μ4 (fun r8 μ7 => ((¬ r8 = 0) → (w_X0_layTrees S v1 μ7 (fun μ10 => w_X0_tree_43 S v1 v2 0 μ10 Q))) ∧ ((r8 = 0) → Q (-1) μ7)))))))))
abbrev rm_X0_tree : Room := { frames := 4, cells := 0, slots := 0, locals := 94 }
theorem mf_X0_tree : MFact yX0_tree 3 rm_X0_tree := ⟨by decide +kernel, rfl, rfl⟩
set_option maxHeartbeats 4000000 in
theorem met_X0_tree (l : Launch) (D : va_G) (ac : Nat → ClassId) (ad : Nat → Nat) (S : XS) (hLay : LayOk ad (knX S)) (v1 : Int32) (v2 : Int32) (v3 : Int32) (μ : WS) (Q : Int32 → WS → Prop) (h : w_X0_tree S v1 v2 v3 μ Q) : CMet l yX0_tree cX0_tree 5 (some .int) rm_X0_tree D ac ad (knX S) (ExX D ac ad S) [.ref (ad 0), .int v1, .int v2, .int v3] μ (qI Q) := by
  refine vv_met (lv := [(0, .ref (ad 0)), (1, .int v1), (2, .int v2), (3, .int v3)]) (by decide) hLay exX_ok (Nat.le_of_ble_eq_true rfl) rfl ⟨rfl, rfl⟩ (fun C hC hK hRm hLl hR hM => ?_)
  subst hLl
  have hRo : RoomOk (HPW D ac ad (knX S) (ExX D ac ad S) (vS C)) (vR C) := HPW.room
  have L70 : ∀ (P43 : Int32 → Int32 → Int32 → WS → Prop) (h43 : ∀ (v1 : Int32) (v2 : Int32) (v4 : Int32) (μ : WS), P43 v1 v2 v4 μ → VV C 5 (HPW D ac ad (knX S) (ExX D ac ad S) (vS C)) (vQ C (QcW D ac ad (knX S) (qI Q)) 0 0 (inLay ad (knX S))) (μ, ()) 43 [(0, .ref (ad 0)), (1, .int v1), (2, .int v2), (4, .int v4)] []) (s0 : Int32) (v1 : Int32) (v2 : Int32) (v4 : Int32) (μ : WS), w_X0_tree_70 S P43 s0 v1 v2 v4 μ Q → VV C 5 (HPW D ac ad (knX S) (ExX D ac ad S) (vS C)) (vQ C (QcW D ac ad (knX S) (qI Q)) 0 0 (inLay ad (knX S))) (μ, ()) 70 [(0, .ref (ad 0)), (1, .int v1), (2, .int v2), (4, .int v4)] [.int s0, .ref (ad 0)] := by
    intro P43 h43 s0 v1 v2 v4 μ h
    unfold w_X0_tree_70 at h
    refine vv_callVv hC hR hK hRo hRm [.int s0] [] (met_X0_put (vL C) D ac ad S hLay s0 μ _ h) gxX0_267 mf_X0_put rfl (lx_0 S) rfl rfl rfl rfl dX0_tree_70 (fun μ15 h => ?_)
    refine vv_iinc (pl := 3) (v := v4 + 1) (lv' := [(4, .int (v4 + 1)), (0, .ref (ad 0)), (1, .int v1), (2, .int v2)]) hC dX0_tree_73 rfl rfl (by decide) rfl ?_
    refine vv_goto (tgt := 43) hC dX0_tree_76 rfl ?_
    refine vv_lv [1, 2, 3, 0] rfl ?_
    exact h43 _ _ _ _ h
  have L43 : ∀ (v1 : Int32) (v2 : Int32) (v4 : Int32) (μ : WS), w_X0_tree_43 S  v1 v2 v4 μ Q → VV C 5 (HPW D ac ad (knX S) (ExX D ac ad S) (vS C)) (vQ C (QcW D ac ad (knX S) (qI Q)) 0 0 (inLay ad (knX S))) (μ, ()) 43 [(0, .ref (ad 0)), (1, .int v1), (2, .int v2), (4, .int v4)] [] := by
    intro  v1 v2 v4 μ h
    refine h (fun v1 v2 v4 μ => VV C 5 (HPW D ac ad (knX S) (ExX D ac ad S) (vS C)) (vQ C (QcW D ac ad (knX S) (qI Q)) 0 0 (inLay ad (knX S))) (μ, ()) 43 [(0, .ref (ad 0)), (1, .int v1), (2, .int v2), (4, .int v4)] []) ?_
    clear h; intro v1 v2 v4 μ h
    have h43 : ∀ (v1 : Int32) (v2 : Int32) (v4 : Int32) (μ : WS), (fun v1 v2 v4 (μ : WS) => VV C 5 (HPW D ac ad (knX S) (ExX D ac ad S) (vS C)) (vQ C (QcW D ac ad (knX S) (qI Q)) 0 0 (inLay ad (knX S))) (μ, ()) 43 [(0, .ref (ad 0)), (1, .int v1), (2, .int v2), (4, .int v4)] []) v1 v2 v4 μ → VV C 5 (HPW D ac ad (knX S) (ExX D ac ad S) (vS C)) (vQ C (QcW D ac ad (knX S) (qI Q)) 0 0 (inLay ad (knX S))) (μ, ()) 43 [(0, .ref (ad 0)), (1, .int v1), (2, .int v2), (4, .int v4)] [] := fun _ _ _ _ h => h
    unfold w_X0_tree_43b at h
    refine vv_iload hC dX0_tree_43 3 rfl ?_
    refine vv_aload_n hC dX0_tree_45 rfl 0 rfl ?_
    refine vv_getf hC hR hK fxX0_321_X0 0 (lx_0 S) rfl dX0_tree_46 ?_
    refine vv_icmp_ge (tgt := 79) hC dX0_tree_49 rfl (fun c12 => ?_) (fun c12 => ?_)
    · replace h := h.1 c12
      refine vv_iload_n hC dX0_tree_79 rfl 2 rfl ?_
      refine vv_if_ne (tgt := 90) hC dX0_tree_80 rfl (fun c13 => ?_) (fun c13 => ?_)
      · replace h := h.1 c13
        refine vv_aload_n hC dX0_tree_90 rfl 0 rfl ?_
        refine vv_getf hC hR hK fxX0_335_X0 0 (lx_0 S) rfl dX0_tree_91 ?_
        exact vv_iret hC hM dX0_tree_94 h
      · replace h := h.2 c13
        refine vv_aload_n hC dX0_tree_83 rfl 0 rfl ?_
        refine vv_getf hC hR hK fxX0_332_X0 0 (lx_0 S) rfl dX0_tree_84 ?_
        refine vv_goto (tgt := 94) hC dX0_tree_87 rfl ?_
        exact vv_iret hC hM dX0_tree_94 h
    · replace h := h.2 c12
      refine vv_aload_n hC dX0_tree_52 rfl 0 rfl ?_
      refine vv_iload hC dX0_tree_53 3 rfl ?_
      refine vv_iload_n hC dX0_tree_55 rfl 1 rfl ?_
      refine vv_icmp_ne (tgt := 63) hC dX0_tree_56 rfl (fun c14 => ?_) (fun c14 => ?_)
      · replace h := h.1 c14
        refine vv_aload_n hC dX0_tree_63 rfl 0 rfl ?_
        refine vv_getf hC hR hK fxX0_87_X0 0 (lx_0 S) rfl dX0_tree_64 ?_
        refine vv_iload hC dX0_tree_67 3 rfl ?_
        obtain ⟨hin365, h⟩ := h
        refine vv_iald hC hR hK 123 (lx_123 S) hin365 dX0_tree_69 ?_
        exact L70 _ h43 _ _ _ _ _ h
      · replace h := h.2 c14
        refine vv_iconst hC dX0_tree_59 xic_m1 ?_
        refine vv_goto (tgt := 70) hC dX0_tree_60 rfl ?_
        exact L70 _ h43 _ _ _ _ _ h
  unfold w_X0_tree at h
  refine vv_aload_n hC dX0_tree_0 rfl 0 rfl ?_
  refine vv_iconst hC dX0_tree_1 xic_0 ?_
  refine vv_puti hC hR hK fxX0_121_X0 0 (lx_0 S) rfl rfl rfl dX0_tree_2 ?_
  refine vv_st (fun y e => ?_)
  obtain ⟨μ1, _⟩ := y
  have eμ1 := congrArg Prod.fst e
  clear e
  replace h := h μ1 eμ1
  refine vv_aload_n hC dX0_tree_5 rfl 0 rfl ?_
  refine vv_iload_n hC dX0_tree_6 rfl 3 rfl ?_
  refine vv_callVv hC hR hK hRo hRm [.int v3] [] (met_X0_laySamples (vL C) D ac ad S hLay v3 μ1 _ h) gxX0_347 mf_X0_laySamples rfl (lx_0 S) rfl rfl rfl rfl dX0_tree_7 (fun μ2 h => ?_)
  refine vv_iload_n hC dX0_tree_10 rfl 1 rfl ?_
  refine vv_iconst hC dX0_tree_11 xic_0 ?_
  refine vv_aload_n hC dX0_tree_12 rfl 0 rfl ?_
  refine vv_getf hC hR hK fxX0_321_X0 0 (lx_0 S) rfl dX0_tree_13 ?_
  refine vv_iconst hC dX0_tree_16 xic_1 ?_
  refine vv_isub hC dX0_tree_17 ?_
  refine vv_callSi hC hR hK hRo hRm [.int v1, .int 0, .int ((μ2.1 0 24) - 1)] [] (met_X0_isIn (vL C) D ac ad S hLay v1 0 ((μ2.1 0 24) - 1) μ2 _ h) gxX0_150 mf_X0_isIn rfl rfl rfl dX0_tree_18 (fun r5 μ4 h => ?_)
  refine vv_if_eq (tgt := 33) hC dX0_tree_21 rfl (fun c6 => ?_) (fun c6 => ?_)
  · replace h := h.1 c6
    refine vv_iconst hC dX0_tree_33 xic_m1 ?_
    exact vv_iret hC hM dX0_tree_34 h
  · replace h := h.2 c6
    refine vv_iload_n hC dX0_tree_24 rfl 2 rfl ?_
    refine vv_iconst hC dX0_tree_25 xic_0 ?_
    refine vv_iconst hC dX0_tree_26 xic_1 ?_
    refine vv_callSi hC hR hK hRo hRm [.int v2, .int 0, .int 1] [] (met_X0_isIn (vL C) D ac ad S hLay v2 0 1 μ4 _ h) gxX0_150 mf_X0_isIn rfl rfl rfl dX0_tree_27 (fun r8 μ7 h => ?_)
    refine vv_if_ne (tgt := 35) hC dX0_tree_30 rfl (fun c9 => ?_) (fun c9 => ?_)
    · replace h := h.1 c9
      refine vv_aload_n hC dX0_tree_35 rfl 0 rfl ?_
      refine vv_iload_n hC dX0_tree_36 rfl 1 rfl ?_
      refine vv_callVv hC hR hK hRo hRm [.int v1] [] (met_X0_layTrees (vL C) D ac ad S hLay v1 μ7 _ h) gxX0_350 mf_X0_layTrees rfl (lx_0 S) rfl rfl rfl rfl dX0_tree_37 (fun μ10 h => ?_)
      refine vv_iconst hC dX0_tree_40 xic_0 ?_
      refine vv_istore (lv' := [(4, .int 0), (0, .ref (ad 0)), (1, .int v1), (2, .int v2), (3, .int v3)]) hC dX0_tree_41 (by decide) rfl ?_
      refine vv_lv [1, 2, 3, 0] rfl ?_
      exact L43  _ _ _ _ h
    · replace h := h.2 c9
      refine vv_iconst hC dX0_tree_33 xic_m1 ?_
      exact vv_iret hC hM dX0_tree_34 h
def w_X0_changesFrom_28 (S : XS) (P4 : Int32 → Int32 → Int32 → WS → Prop) (s0 : Int32) (s1 : Int32) (v1 : Int32) (v3 : Int32) (μ : WS) (Q : Int32 → WS → Prop) : Prop := (∀ x5 : Int32, x5 = s1 + s0 → P4 v1 x5 (v3 + 1) μ)
def w_X0_changesFrom_4b (S : XS) (P4 : Int32 → Int32 → Int32 → WS → Prop) (v1 : Int32) (v2 : Int32) (v3 : Int32) (μ : WS) (Q : Int32 → WS → Prop) : Prop := ((μ.1 0 24 ≤ v3) → Q v2 μ) ∧ ((¬ μ.1 0 24 ≤ v3) → ((¬ v1 = v3) → (w_X0_changes S v1 v3 μ (fun r4 μ3 => w_X0_changesFrom_28 S P4 r4 v2 v1 v3 μ3 Q))) ∧ ((v1 = v3) → w_X0_changesFrom_28 S P4 0 v2 v1 v3 μ Q))
def w_X0_changesFrom_4 (S : XS) (v1 : Int32) (v2 : Int32) (v3 : Int32) (μ : WS) (Q : Int32 → WS → Prop) : Prop := ∀ P4 : Int32 → Int32 → Int32 → WS → Prop, (∀ (v1 : Int32) (v2 : Int32) (v3 : Int32) (μ : WS), w_X0_changesFrom_4b S  P4 v1 v2 v3 μ Q → P4 v1 v2 v3 μ) → P4 v1 v2 v3 μ
def w_X0_changesFrom (S : XS) (v1 : Int32) (μ : WS) (Q : Int32 → WS → Prop) : Prop := w_X0_changesFrom_4 S v1 0 0 μ Q
abbrev rm_X0_changesFrom : Room := { frames := 2, cells := 0, slots := 0, locals := 47 }
theorem mf_X0_changesFrom : MFact yX0_changesFrom 1 rm_X0_changesFrom := ⟨by decide +kernel, rfl, rfl⟩
set_option maxHeartbeats 4000000 in
theorem met_X0_changesFrom (l : Launch) (D : va_G) (ac : Nat → ClassId) (ad : Nat → Nat) (S : XS) (hLay : LayOk ad (knX S)) (v1 : Int32) (μ : WS) (Q : Int32 → WS → Prop) (h : w_X0_changesFrom S v1 μ Q) : CMet l yX0_changesFrom cX0_changesFrom 4 (some .int) rm_X0_changesFrom D ac ad (knX S) (ExX D ac ad S) [.ref (ad 0), .int v1] μ (qI Q) := by
  refine vv_met (lv := [(0, .ref (ad 0)), (1, .int v1)]) (by decide) hLay exX_ok (Nat.le_of_ble_eq_true rfl) rfl ⟨rfl, rfl⟩ (fun C hC hK hRm hLl hR hM => ?_)
  subst hLl
  have hRo : RoomOk (HPW D ac ad (knX S) (ExX D ac ad S) (vS C)) (vR C) := HPW.room
  have L28 : ∀ (P4 : Int32 → Int32 → Int32 → WS → Prop) (h4 : ∀ (v1 : Int32) (v2 : Int32) (v3 : Int32) (μ : WS), P4 v1 v2 v3 μ → VV C 4 (HPW D ac ad (knX S) (ExX D ac ad S) (vS C)) (vQ C (QcW D ac ad (knX S) (qI Q)) 0 0 (inLay ad (knX S))) (μ, ()) 4 [(0, .ref (ad 0)), (1, .int v1), (2, .int v2), (3, .int v3)] []) (s0 : Int32) (s1 : Int32) (v1 : Int32) (v3 : Int32) (μ : WS), w_X0_changesFrom_28 S P4 s0 s1 v1 v3 μ Q → VV C 4 (HPW D ac ad (knX S) (ExX D ac ad S) (vS C)) (vQ C (QcW D ac ad (knX S) (qI Q)) 0 0 (inLay ad (knX S))) (μ, ()) 28 [(0, .ref (ad 0)), (1, .int v1), (3, .int v3)] [.int s0, .int s1] := by
    intro P4 h4 s0 s1 v1 v3 μ h
    unfold w_X0_changesFrom_28 at h
    refine vv_iadd hC dX0_changesFrom_28 ?_
    refine vv_topi (fun x5 ex5 => ?_)
    replace h := h x5 ex5
    refine vv_istore_n (lv' := [(2, .int x5), (0, .ref (ad 0)), (1, .int v1), (3, .int v3)]) hC dX0_changesFrom_29 rfl (by decide) rfl ?_
    refine vv_iinc (pl := 3) (v := v3 + 1) (lv' := [(3, .int (v3 + 1)), (2, .int x5), (0, .ref (ad 0)), (1, .int v1)]) hC dX0_changesFrom_30 rfl rfl (by decide) rfl ?_
    refine vv_goto (tgt := 4) hC dX0_changesFrom_33 rfl ?_
    refine vv_lv [2, 3, 1, 0] rfl ?_
    exact h4 _ _ _ _ h
  have L4 : ∀ (v1 : Int32) (v2 : Int32) (v3 : Int32) (μ : WS), w_X0_changesFrom_4 S  v1 v2 v3 μ Q → VV C 4 (HPW D ac ad (knX S) (ExX D ac ad S) (vS C)) (vQ C (QcW D ac ad (knX S) (qI Q)) 0 0 (inLay ad (knX S))) (μ, ()) 4 [(0, .ref (ad 0)), (1, .int v1), (2, .int v2), (3, .int v3)] [] := by
    intro  v1 v2 v3 μ h
    refine h (fun v1 v2 v3 μ => VV C 4 (HPW D ac ad (knX S) (ExX D ac ad S) (vS C)) (vQ C (QcW D ac ad (knX S) (qI Q)) 0 0 (inLay ad (knX S))) (μ, ()) 4 [(0, .ref (ad 0)), (1, .int v1), (2, .int v2), (3, .int v3)] []) ?_
    clear h; intro v1 v2 v3 μ h
    have h4 : ∀ (v1 : Int32) (v2 : Int32) (v3 : Int32) (μ : WS), (fun v1 v2 v3 (μ : WS) => VV C 4 (HPW D ac ad (knX S) (ExX D ac ad S) (vS C)) (vQ C (QcW D ac ad (knX S) (qI Q)) 0 0 (inLay ad (knX S))) (μ, ()) 4 [(0, .ref (ad 0)), (1, .int v1), (2, .int v2), (3, .int v3)] []) v1 v2 v3 μ → VV C 4 (HPW D ac ad (knX S) (ExX D ac ad S) (vS C)) (vQ C (QcW D ac ad (knX S) (qI Q)) 0 0 (inLay ad (knX S))) (μ, ()) 4 [(0, .ref (ad 0)), (1, .int v1), (2, .int v2), (3, .int v3)] [] := fun _ _ _ _ h => h
    unfold w_X0_changesFrom_4b at h
    refine vv_iload_n hC dX0_changesFrom_4 rfl 3 rfl ?_
    refine vv_aload_n hC dX0_changesFrom_5 rfl 0 rfl ?_
    refine vv_getf hC hR hK fxX0_321_X0 0 (lx_0 S) rfl dX0_changesFrom_6 ?_
    refine vv_icmp_ge (tgt := 36) hC dX0_changesFrom_9 rfl (fun c1 => ?_) (fun c1 => ?_)
    · replace h := h.1 c1
      refine vv_iload_n hC dX0_changesFrom_36 rfl 2 rfl ?_
      exact vv_iret hC hM dX0_changesFrom_37 h
    · replace h := h.2 c1
      refine vv_iload_n hC dX0_changesFrom_12 rfl 2 rfl ?_
      refine vv_iload_n hC dX0_changesFrom_13 rfl 1 rfl ?_
      refine vv_iload_n hC dX0_changesFrom_14 rfl 3 rfl ?_
      refine vv_icmp_ne (tgt := 22) hC dX0_changesFrom_15 rfl (fun c2 => ?_) (fun c2 => ?_)
      · replace h := h.1 c2
        refine vv_aload_n hC dX0_changesFrom_22 rfl 0 rfl ?_
        refine vv_iload_n hC dX0_changesFrom_23 rfl 1 rfl ?_
        refine vv_iload_n hC dX0_changesFrom_24 rfl 3 rfl ?_
        refine vv_callVi hC hR hK hRo hRm [.int v1, .int v3] [.int v2] (met_X0_changes (vL C) D ac ad S hLay v1 v3 μ _ h) gxX0_329 mf_X0_changes rfl (lx_0 S) rfl rfl rfl rfl dX0_changesFrom_25 (fun r4 μ3 h => ?_)
        refine vv_lv [0, 1, 3] rfl ?_
        exact L28 _ h4 _ _ _ _ _ h
      · replace h := h.2 c2
        refine vv_iconst hC dX0_changesFrom_18 xic_0 ?_
        refine vv_goto (tgt := 28) hC dX0_changesFrom_19 rfl ?_
        refine vv_lv [0, 1, 3] rfl ?_
        exact L28 _ h4 _ _ _ _ _ h
  unfold w_X0_changesFrom at h
  refine vv_iconst hC dX0_changesFrom_0 xic_0 ?_
  refine vv_istore_n (lv' := [(2, .int 0), (0, .ref (ad 0)), (1, .int v1)]) hC dX0_changesFrom_1 rfl (by decide) rfl ?_
  refine vv_iconst hC dX0_changesFrom_2 xic_0 ?_
  refine vv_istore_n (lv' := [(3, .int 0), (2, .int 0), (0, .ref (ad 0)), (1, .int v1)]) hC dX0_changesFrom_3 rfl (by decide) rfl ?_
  refine vv_lv [2, 3, 1, 0] rfl ?_
  exact L4  _ _ _ _ h
def w_X0_centre_57 (S : XS) (P28 : Int32 → Int32 → Int32 → WS → Prop) (s0 : Int32) (v1 : Int32) (v4 : Int32) (μ : WS) (Q : Int32 → WS → Prop) : Prop := P28 v1 s0 (v4 + 1) μ
def w_X0_centre_28b (S : XS) (P28 : Int32 → Int32 → Int32 → WS → Prop) (v1 : Int32) (v3 : Int32) (v4 : Int32) (μ : WS) (Q : Int32 → WS → Prop) : Prop := ((μ.1 0 24 ≤ v4) → ((¬ v1 = 0) → (w_X0_changesFrom S v3 μ (fun r10 μ9 => Q r10 μ9))) ∧ ((v1 = 0) → Q v3 μ)) ∧ ((¬ μ.1 0 24 ≤ v4) → (w_X0_changesFrom S v4 μ (fun r12 μ11 => (w_X0_changesFrom S v3 μ11 (fun r14 μ13 => ((r14 ≤ r12) → w_X0_centre_57 S P28 v3 v1 v4 μ13 Q) ∧ ((¬ r14 ≤ r12) → w_X0_centre_57 S P28 v4 v1 v4 μ13 Q))))))
def w_X0_centre_28 (S : XS) (v1 : Int32) (v3 : Int32) (v4 : Int32) (μ : WS) (Q : Int32 → WS → Prop) : Prop := ∀ P28 : Int32 → Int32 → Int32 → WS → Prop, (∀ (v1 : Int32) (v3 : Int32) (v4 : Int32) (μ : WS), w_X0_centre_28b S  P28 v1 v3 v4 μ Q → P28 v1 v3 v4 μ) → P28 v1 v3 v4 μ
def w_X0_centre (S : XS) (v1 : Int32) (v2 : Int32) (μ : WS) (Q : Int32 → WS → Prop) : Prop := (w_X0_laySamples S v2 μ (fun μ1 => ((μ1.1 0 24 = 0) → Q (-1) μ1) ∧ ((¬ μ1.1 0 24 = 0) → (w_X0_isIn S v1 0 1 μ1 (fun r5 μ4 => ((¬ r5 = 0) → w_X0_centre_28 S v1 0 1 μ4 Q) ∧ ((r5 = 0) → Q (-1) μ4))))))
abbrev rm_X0_centre : Room := { frames := 4, cells := 0, slots := 0, locals := 86 }
theorem mf_X0_centre : MFact yX0_centre 2 rm_X0_centre := ⟨by decide +kernel, rfl, rfl⟩
set_option maxHeartbeats 4000000 in
theorem met_X0_centre (l : Launch) (D : va_G) (ac : Nat → ClassId) (ad : Nat → Nat) (S : XS) (hLay : LayOk ad (knX S)) (v1 : Int32) (v2 : Int32) (μ : WS) (Q : Int32 → WS → Prop) (h : w_X0_centre S v1 v2 μ Q) : CMet l yX0_centre cX0_centre 5 (some .int) rm_X0_centre D ac ad (knX S) (ExX D ac ad S) [.ref (ad 0), .int v1, .int v2] μ (qI Q) := by
  refine vv_met (lv := [(0, .ref (ad 0)), (1, .int v1), (2, .int v2)]) (by decide) hLay exX_ok (Nat.le_of_ble_eq_true rfl) rfl ⟨rfl, rfl⟩ (fun C hC hK hRm hLl hR hM => ?_)
  subst hLl
  have hRo : RoomOk (HPW D ac ad (knX S) (ExX D ac ad S) (vS C)) (vR C) := HPW.room
  have L57 : ∀ (P28 : Int32 → Int32 → Int32 → WS → Prop) (h28 : ∀ (v1 : Int32) (v3 : Int32) (v4 : Int32) (μ : WS), P28 v1 v3 v4 μ → VV C 5 (HPW D ac ad (knX S) (ExX D ac ad S) (vS C)) (vQ C (QcW D ac ad (knX S) (qI Q)) 0 0 (inLay ad (knX S))) (μ, ()) 28 [(0, .ref (ad 0)), (1, .int v1), (3, .int v3), (4, .int v4)] []) (s0 : Int32) (v1 : Int32) (v4 : Int32) (μ : WS), w_X0_centre_57 S P28 s0 v1 v4 μ Q → VV C 5 (HPW D ac ad (knX S) (ExX D ac ad S) (vS C)) (vQ C (QcW D ac ad (knX S) (qI Q)) 0 0 (inLay ad (knX S))) (μ, ()) 57 [(0, .ref (ad 0)), (1, .int v1), (4, .int v4)] [.int s0] := by
    intro P28 h28 s0 v1 v4 μ h
    unfold w_X0_centre_57 at h
    refine vv_istore_n (lv' := [(3, .int s0), (0, .ref (ad 0)), (1, .int v1), (4, .int v4)]) hC dX0_centre_57 rfl (by decide) rfl ?_
    refine vv_iinc (pl := 3) (v := v4 + 1) (lv' := [(4, .int (v4 + 1)), (3, .int s0), (0, .ref (ad 0)), (1, .int v1)]) hC dX0_centre_58 rfl rfl (by decide) rfl ?_
    refine vv_goto (tgt := 28) hC dX0_centre_61 rfl ?_
    refine vv_lv [2, 3, 1, 0] rfl ?_
    exact h28 _ _ _ _ h
  have L28 : ∀ (v1 : Int32) (v3 : Int32) (v4 : Int32) (μ : WS), w_X0_centre_28 S  v1 v3 v4 μ Q → VV C 5 (HPW D ac ad (knX S) (ExX D ac ad S) (vS C)) (vQ C (QcW D ac ad (knX S) (qI Q)) 0 0 (inLay ad (knX S))) (μ, ()) 28 [(0, .ref (ad 0)), (1, .int v1), (3, .int v3), (4, .int v4)] [] := by
    intro  v1 v3 v4 μ h
    refine h (fun v1 v3 v4 μ => VV C 5 (HPW D ac ad (knX S) (ExX D ac ad S) (vS C)) (vQ C (QcW D ac ad (knX S) (qI Q)) 0 0 (inLay ad (knX S))) (μ, ()) 28 [(0, .ref (ad 0)), (1, .int v1), (3, .int v3), (4, .int v4)] []) ?_
    clear h; intro v1 v3 v4 μ h
    have h28 : ∀ (v1 : Int32) (v3 : Int32) (v4 : Int32) (μ : WS), (fun v1 v3 v4 (μ : WS) => VV C 5 (HPW D ac ad (knX S) (ExX D ac ad S) (vS C)) (vQ C (QcW D ac ad (knX S) (qI Q)) 0 0 (inLay ad (knX S))) (μ, ()) 28 [(0, .ref (ad 0)), (1, .int v1), (3, .int v3), (4, .int v4)] []) v1 v3 v4 μ → VV C 5 (HPW D ac ad (knX S) (ExX D ac ad S) (vS C)) (vQ C (QcW D ac ad (knX S) (qI Q)) 0 0 (inLay ad (knX S))) (μ, ()) 28 [(0, .ref (ad 0)), (1, .int v1), (3, .int v3), (4, .int v4)] [] := fun _ _ _ _ h => h
    unfold w_X0_centre_28b at h
    refine vv_iload hC dX0_centre_28 3 rfl ?_
    refine vv_aload_n hC dX0_centre_30 rfl 0 rfl ?_
    refine vv_getf hC hR hK fxX0_321_X0 0 (lx_0 S) rfl dX0_centre_31 ?_
    refine vv_icmp_ge (tgt := 64) hC dX0_centre_34 rfl (fun c7 => ?_) (fun c7 => ?_)
    · replace h := h.1 c7
      refine vv_iload_n hC dX0_centre_64 rfl 1 rfl ?_
      refine vv_if_ne (tgt := 72) hC dX0_centre_65 rfl (fun c8 => ?_) (fun c8 => ?_)
      · replace h := h.1 c8
        refine vv_aload_n hC dX0_centre_72 rfl 0 rfl ?_
        refine vv_iload_n hC dX0_centre_73 rfl 2 rfl ?_
        refine vv_callVi hC hR hK hRo hRm [.int v3] [] (met_X0_changesFrom (vL C) D ac ad S hLay v3 μ _ h) gxX0_353 mf_X0_changesFrom rfl (lx_0 S) rfl rfl rfl rfl dX0_centre_74 (fun r10 μ9 h => ?_)
        exact vv_iret hC hM dX0_centre_77 h
      · replace h := h.2 c8
        refine vv_iload_n hC dX0_centre_68 rfl 2 rfl ?_
        refine vv_goto (tgt := 77) hC dX0_centre_69 rfl ?_
        exact vv_iret hC hM dX0_centre_77 h
    · replace h := h.2 c7
      refine vv_aload_n hC dX0_centre_37 rfl 0 rfl ?_
      refine vv_iload hC dX0_centre_38 3 rfl ?_
      refine vv_callVi hC hR hK hRo hRm [.int v4] [] (met_X0_changesFrom (vL C) D ac ad S hLay v4 μ _ h) gxX0_353 mf_X0_changesFrom rfl (lx_0 S) rfl rfl rfl rfl dX0_centre_40 (fun r12 μ11 h => ?_)
      refine vv_aload_n hC dX0_centre_43 rfl 0 rfl ?_
      refine vv_iload_n hC dX0_centre_44 rfl 2 rfl ?_
      refine vv_callVi hC hR hK hRo hRm [.int v3] [.int r12] (met_X0_changesFrom (vL C) D ac ad S hLay v3 μ11 _ h) gxX0_353 mf_X0_changesFrom rfl (lx_0 S) rfl rfl rfl rfl dX0_centre_45 (fun r14 μ13 h => ?_)
      refine vv_icmp_ge (tgt := 56) hC dX0_centre_48 rfl (fun c15 => ?_) (fun c15 => ?_)
      · replace h := h.1 c15
        refine vv_iload_n hC dX0_centre_56 rfl 2 rfl ?_
        refine vv_lv [0, 1, 3] rfl ?_
        exact L57 _ h28 _ _ _ _ h
      · replace h := h.2 c15
        refine vv_iload hC dX0_centre_51 3 rfl ?_
        refine vv_goto (tgt := 57) hC dX0_centre_53 rfl ?_
        refine vv_lv [0, 1, 3] rfl ?_
        exact L57 _ h28 _ _ _ _ h
  unfold w_X0_centre at h
  refine vv_aload_n hC dX0_centre_0 rfl 0 rfl ?_
  refine vv_iload_n hC dX0_centre_1 rfl 2 rfl ?_
  refine vv_callVv hC hR hK hRo hRm [.int v2] [] (met_X0_laySamples (vL C) D ac ad S hLay v2 μ _ h) gxX0_347 mf_X0_laySamples rfl (lx_0 S) rfl rfl rfl rfl dX0_centre_2 (fun μ1 h => ?_)
  refine vv_aload_n hC dX0_centre_5 rfl 0 rfl ?_
  refine vv_getf hC hR hK fxX0_321_X0 0 (lx_0 S) rfl dX0_centre_6 ?_
  refine vv_if_eq (tgt := 21) hC dX0_centre_9 rfl (fun c3 => ?_) (fun c3 => ?_)
  · replace h := h.1 c3
    refine vv_iconst hC dX0_centre_21 xic_m1 ?_
    exact vv_iret hC hM dX0_centre_22 h
  · replace h := h.2 c3
    refine vv_iload_n hC dX0_centre_12 rfl 1 rfl ?_
    refine vv_iconst hC dX0_centre_13 xic_0 ?_
    refine vv_iconst hC dX0_centre_14 xic_1 ?_
    refine vv_callSi hC hR hK hRo hRm [.int v1, .int 0, .int 1] [] (met_X0_isIn (vL C) D ac ad S hLay v1 0 1 μ1 _ h) gxX0_150 mf_X0_isIn rfl rfl rfl dX0_centre_15 (fun r5 μ4 h => ?_)
    refine vv_if_ne (tgt := 23) hC dX0_centre_18 rfl (fun c6 => ?_) (fun c6 => ?_)
    · replace h := h.1 c6
      refine vv_iconst hC dX0_centre_23 xic_0 ?_
      refine vv_istore_n (lv' := [(3, .int 0), (0, .ref (ad 0)), (1, .int v1), (2, .int v2)]) hC dX0_centre_24 rfl (by decide) rfl ?_
      refine vv_iconst hC dX0_centre_25 xic_1 ?_
      refine vv_istore (lv' := [(4, .int 1), (3, .int 0), (0, .ref (ad 0)), (1, .int v1), (2, .int v2)]) hC dX0_centre_26 (by decide) rfl ?_
      refine vv_lv [2, 3, 1, 0] rfl ?_
      exact L28  _ _ _ _ h
    · replace h := h.2 c6
      refine vv_iconst hC dX0_centre_21 xic_m1 ?_
      exact vv_iret hC hM dX0_centre_22 h
def w_X0_clan_78 (S : XS) (P5 : Int32 → Int32 → Int32 → WS → Prop) (P17 : Int32 → Int32 → Int32 → Int32 → WS → Prop) (P29 : Int32 → Int32 → Int32 → Int32 → Int32 → WS → Prop) (v2 : Int32) (v3 : Int32) (v4 : Int32) (v5 : Int32) (v6 : Int32) (μ : WS) (Q : Int32 → WS → Prop) : Prop := P29 v2 v3 v4 v5 (v6 + 1) μ
def w_X0_clan_29b (S : XS) (P5 : Int32 → Int32 → Int32 → WS → Prop) (P17 : Int32 → Int32 → Int32 → Int32 → WS → Prop) (P29 : Int32 → Int32 → Int32 → Int32 → Int32 → WS → Prop) (v2 : Int32) (v3 : Int32) (v4 : Int32) (v5 : Int32) (v6 : Int32) (μ : WS) (Q : Int32 → WS → Prop) : Prop := ((μ.1 0 24 ≤ v6) → P17 v2 v3 v4 (v5 + 1) μ) ∧ ((¬ μ.1 0 24 ≤ v6) → ((¬ (v3 >>> (v5 &&& 31)) &&& 1 = 1) → w_X0_clan_78 S P5 P17 P29 v2 v3 v4 v5 v6 μ Q) ∧ (((v3 >>> (v5 &&& 31)) &&& 1 = 1) → (w_X0_changes S v5 v6 μ (fun r6 μ5 => (w_X0_changes S v6 v5 μ5 (fun r8 μ7 => ((v2 < (if r8 < r6 then r8 else r6)) → w_X0_clan_78 S P5 P17 P29 v2 v3 v4 v5 v6 μ7 Q) ∧ ((¬ v2 < (if r8 < r6 then r8 else r6)) → (∀ x10 : Int32, x10 = v3 ||| (1 <<< (v6 &&& 31)) → w_X0_clan_78 S P5 P17 P29 v2 x10 v4 v5 v6 μ7 Q))))))))
def w_X0_clan_29 (S : XS) (P5 : Int32 → Int32 → Int32 → WS → Prop) (P17 : Int32 → Int32 → Int32 → Int32 → WS → Prop) (v2 : Int32) (v3 : Int32) (v4 : Int32) (v5 : Int32) (v6 : Int32) (μ : WS) (Q : Int32 → WS → Prop) : Prop := ∀ P29 : Int32 → Int32 → Int32 → Int32 → Int32 → WS → Prop, (∀ (v2 : Int32) (v3 : Int32) (v4 : Int32) (v5 : Int32) (v6 : Int32) (μ : WS), w_X0_clan_29b S P5 P17 P29 v2 v3 v4 v5 v6 μ Q → P29 v2 v3 v4 v5 v6 μ) → P29 v2 v3 v4 v5 v6 μ
def w_X0_clan_17b (S : XS) (P5 : Int32 → Int32 → Int32 → WS → Prop) (P17 : Int32 → Int32 → Int32 → Int32 → WS → Prop) (v2 : Int32) (v3 : Int32) (v4 : Int32) (v5 : Int32) (μ : WS) (Q : Int32 → WS → Prop) : Prop := ((μ.1 0 24 ≤ v5) → P5 v2 v3 (v4 + 1) μ) ∧ ((¬ μ.1 0 24 ≤ v5) → w_X0_clan_29 S P5 P17 v2 v3 v4 v5 0 μ Q)
def w_X0_clan_17 (S : XS) (P5 : Int32 → Int32 → Int32 → WS → Prop) (v2 : Int32) (v3 : Int32) (v4 : Int32) (v5 : Int32) (μ : WS) (Q : Int32 → WS → Prop) : Prop := ∀ P17 : Int32 → Int32 → Int32 → Int32 → WS → Prop, (∀ (v2 : Int32) (v3 : Int32) (v4 : Int32) (v5 : Int32) (μ : WS), w_X0_clan_17b S P5 P17 v2 v3 v4 v5 μ Q → P17 v2 v3 v4 v5 μ) → P17 v2 v3 v4 v5 μ
def w_X0_clan_5b (S : XS) (P5 : Int32 → Int32 → Int32 → WS → Prop) (v2 : Int32) (v3 : Int32) (v4 : Int32) (μ : WS) (Q : Int32 → WS → Prop) : Prop := ((μ.1 0 24 ≤ v4) → Q v3 μ) ∧ ((¬ μ.1 0 24 ≤ v4) → w_X0_clan_17 S P5 v2 v3 v4 0 μ Q)
def w_X0_clan_5 (S : XS) (v2 : Int32) (v3 : Int32) (v4 : Int32) (μ : WS) (Q : Int32 → WS → Prop) : Prop := ∀ P5 : Int32 → Int32 → Int32 → WS → Prop, (∀ (v2 : Int32) (v3 : Int32) (v4 : Int32) (μ : WS), w_X0_clan_5b S  P5 v2 v3 v4 μ Q → P5 v2 v3 v4 μ) → P5 v2 v3 v4 μ
def w_X0_clan (S : XS) (v1 : Int32) (v2 : Int32) (μ : WS) (Q : Int32 → WS → Prop) : Prop := w_X0_clan_5 S v2 v1 0 μ Q
abbrev rm_X0_clan : Room := { frames := 2, cells := 0, slots := 0, locals := 64 }
theorem mf_X0_clan : MFact yX0_clan 2 rm_X0_clan := ⟨by decide +kernel, rfl, rfl⟩
set_option maxHeartbeats 4000000 in
theorem met_X0_clan (l : Launch) (D : va_G) (ac : Nat → ClassId) (ad : Nat → Nat) (S : XS) (hLay : LayOk ad (knX S)) (v1 : Int32) (v2 : Int32) (μ : WS) (Q : Int32 → WS → Prop) (h : w_X0_clan S v1 v2 μ Q) : CMet l yX0_clan cX0_clan 7 (some .int) rm_X0_clan D ac ad (knX S) (ExX D ac ad S) [.ref (ad 0), .int v1, .int v2] μ (qI Q) := by
  refine vv_met (lv := [(0, .ref (ad 0)), (1, .int v1), (2, .int v2)]) (by decide) hLay exX_ok (Nat.le_of_ble_eq_true rfl) rfl ⟨rfl, rfl⟩ (fun C hC hK hRm hLl hR hM => ?_)
  subst hLl
  have hRo : RoomOk (HPW D ac ad (knX S) (ExX D ac ad S) (vS C)) (vR C) := HPW.room
  have L78 : ∀ (P5 : Int32 → Int32 → Int32 → WS → Prop) (h5 : ∀ (v2 : Int32) (v3 : Int32) (v4 : Int32) (μ : WS), P5 v2 v3 v4 μ → VV C 7 (HPW D ac ad (knX S) (ExX D ac ad S) (vS C)) (vQ C (QcW D ac ad (knX S) (qI Q)) 0 0 (inLay ad (knX S))) (μ, ()) 5 [(0, .ref (ad 0)), (2, .int v2), (3, .int v3), (4, .int v4)] []) (P17 : Int32 → Int32 → Int32 → Int32 → WS → Prop) (h17 : ∀ (v2 : Int32) (v3 : Int32) (v4 : Int32) (v5 : Int32) (μ : WS), P17 v2 v3 v4 v5 μ → VV C 7 (HPW D ac ad (knX S) (ExX D ac ad S) (vS C)) (vQ C (QcW D ac ad (knX S) (qI Q)) 0 0 (inLay ad (knX S))) (μ, ()) 17 [(0, .ref (ad 0)), (2, .int v2), (3, .int v3), (4, .int v4), (5, .int v5)] []) (P29 : Int32 → Int32 → Int32 → Int32 → Int32 → WS → Prop) (h29 : ∀ (v2 : Int32) (v3 : Int32) (v4 : Int32) (v5 : Int32) (v6 : Int32) (μ : WS), P29 v2 v3 v4 v5 v6 μ → VV C 7 (HPW D ac ad (knX S) (ExX D ac ad S) (vS C)) (vQ C (QcW D ac ad (knX S) (qI Q)) 0 0 (inLay ad (knX S))) (μ, ()) 29 [(0, .ref (ad 0)), (2, .int v2), (3, .int v3), (4, .int v4), (5, .int v5), (6, .int v6)] []) (v2 : Int32) (v3 : Int32) (v4 : Int32) (v5 : Int32) (v6 : Int32) (μ : WS), w_X0_clan_78 S P5 P17 P29 v2 v3 v4 v5 v6 μ Q → VV C 7 (HPW D ac ad (knX S) (ExX D ac ad S) (vS C)) (vQ C (QcW D ac ad (knX S) (qI Q)) 0 0 (inLay ad (knX S))) (μ, ()) 78 [(0, .ref (ad 0)), (2, .int v2), (3, .int v3), (4, .int v4), (5, .int v5), (6, .int v6)] [] := by
    intro P5 h5 P17 h17 P29 h29 v2 v3 v4 v5 v6 μ h
    unfold w_X0_clan_78 at h
    refine vv_iinc (pl := 5) (v := v6 + 1) (lv' := [(6, .int (v6 + 1)), (0, .ref (ad 0)), (2, .int v2), (3, .int v3), (4, .int v4), (5, .int v5)]) hC dX0_clan_78 rfl rfl (by decide) rfl ?_
    refine vv_goto (tgt := 29) hC dX0_clan_81 rfl ?_
    refine vv_lv [1, 2, 3, 4, 5, 0] rfl ?_
    exact h29 _ _ _ _ _ _ h
  have L29 : ∀ (P5 : Int32 → Int32 → Int32 → WS → Prop) (h5 : ∀ (v2 : Int32) (v3 : Int32) (v4 : Int32) (μ : WS), P5 v2 v3 v4 μ → VV C 7 (HPW D ac ad (knX S) (ExX D ac ad S) (vS C)) (vQ C (QcW D ac ad (knX S) (qI Q)) 0 0 (inLay ad (knX S))) (μ, ()) 5 [(0, .ref (ad 0)), (2, .int v2), (3, .int v3), (4, .int v4)] []) (P17 : Int32 → Int32 → Int32 → Int32 → WS → Prop) (h17 : ∀ (v2 : Int32) (v3 : Int32) (v4 : Int32) (v5 : Int32) (μ : WS), P17 v2 v3 v4 v5 μ → VV C 7 (HPW D ac ad (knX S) (ExX D ac ad S) (vS C)) (vQ C (QcW D ac ad (knX S) (qI Q)) 0 0 (inLay ad (knX S))) (μ, ()) 17 [(0, .ref (ad 0)), (2, .int v2), (3, .int v3), (4, .int v4), (5, .int v5)] []) (v2 : Int32) (v3 : Int32) (v4 : Int32) (v5 : Int32) (v6 : Int32) (μ : WS), w_X0_clan_29 S P5 P17 v2 v3 v4 v5 v6 μ Q → VV C 7 (HPW D ac ad (knX S) (ExX D ac ad S) (vS C)) (vQ C (QcW D ac ad (knX S) (qI Q)) 0 0 (inLay ad (knX S))) (μ, ()) 29 [(0, .ref (ad 0)), (2, .int v2), (3, .int v3), (4, .int v4), (5, .int v5), (6, .int v6)] [] := by
    intro P5 h5 P17 h17 v2 v3 v4 v5 v6 μ h
    refine h (fun v2 v3 v4 v5 v6 μ => VV C 7 (HPW D ac ad (knX S) (ExX D ac ad S) (vS C)) (vQ C (QcW D ac ad (knX S) (qI Q)) 0 0 (inLay ad (knX S))) (μ, ()) 29 [(0, .ref (ad 0)), (2, .int v2), (3, .int v3), (4, .int v4), (5, .int v5), (6, .int v6)] []) ?_
    clear h; intro v2 v3 v4 v5 v6 μ h
    have h29 : ∀ (v2 : Int32) (v3 : Int32) (v4 : Int32) (v5 : Int32) (v6 : Int32) (μ : WS), (fun v2 v3 v4 v5 v6 (μ : WS) => VV C 7 (HPW D ac ad (knX S) (ExX D ac ad S) (vS C)) (vQ C (QcW D ac ad (knX S) (qI Q)) 0 0 (inLay ad (knX S))) (μ, ()) 29 [(0, .ref (ad 0)), (2, .int v2), (3, .int v3), (4, .int v4), (5, .int v5), (6, .int v6)] []) v2 v3 v4 v5 v6 μ → VV C 7 (HPW D ac ad (knX S) (ExX D ac ad S) (vS C)) (vQ C (QcW D ac ad (knX S) (qI Q)) 0 0 (inLay ad (knX S))) (μ, ()) 29 [(0, .ref (ad 0)), (2, .int v2), (3, .int v3), (4, .int v4), (5, .int v5), (6, .int v6)] [] := fun _ _ _ _ _ _ h => h
    unfold w_X0_clan_29b at h
    refine vv_iload hC dX0_clan_29 5 rfl ?_
    refine vv_aload_n hC dX0_clan_31 rfl 0 rfl ?_
    refine vv_getf hC hR hK fxX0_321_X0 0 (lx_0 S) rfl dX0_clan_32 ?_
    refine vv_icmp_ge (tgt := 84) hC dX0_clan_35 rfl (fun c3 => ?_) (fun c3 => ?_)
    · replace h := h.1 c3
      refine vv_iinc (pl := 4) (v := v5 + 1) (lv' := [(5, .int (v5 + 1)), (0, .ref (ad 0)), (2, .int v2), (3, .int v3), (4, .int v4), (6, .int v6)]) hC dX0_clan_84 rfl rfl (by decide) rfl ?_
      refine vv_goto (tgt := 17) hC dX0_clan_87 rfl ?_
      refine vv_lv [1, 2, 3, 4, 0] rfl ?_
      exact h17 _ _ _ _ _ h
    · replace h := h.2 c3
      refine vv_iload_n hC dX0_clan_38 rfl 2 rfl ?_
      refine vv_iload hC dX0_clan_39 4 rfl ?_
      refine vv_ishr hC dX0_clan_41 ?_
      refine vv_iconst hC dX0_clan_42 xic_1 ?_
      refine vv_iand hC dX0_clan_43 ?_
      refine vv_iconst hC dX0_clan_44 xic_1 ?_
      refine vv_icmp_ne (tgt := 78) hC dX0_clan_45 rfl (fun c4 => ?_) (fun c4 => ?_)
      · replace h := h.1 c4
        exact L78 _ h5 _ h17 _ h29 _ _ _ _ _ _ h
      · replace h := h.2 c4
        refine vv_aload_n hC dX0_clan_48 rfl 0 rfl ?_
        refine vv_iload hC dX0_clan_49 4 rfl ?_
        refine vv_iload hC dX0_clan_51 5 rfl ?_
        refine vv_callVi hC hR hK hRo hRm [.int v5, .int v6] [] (met_X0_changes (vL C) D ac ad S hLay v5 v6 μ _ h) gxX0_329 mf_X0_changes rfl (lx_0 S) rfl rfl rfl rfl dX0_clan_53 (fun r6 μ5 h => ?_)
        refine vv_aload_n hC dX0_clan_56 rfl 0 rfl ?_
        refine vv_iload hC dX0_clan_57 5 rfl ?_
        refine vv_iload hC dX0_clan_59 4 rfl ?_
        refine vv_callVi hC hR hK hRo hRm [.int v6, .int v5] [.int r6] (met_X0_changes (vL C) D ac ad S hLay v6 v5 μ5 _ h) gxX0_329 mf_X0_changes rfl (lx_0 S) rfl rfl rfl rfl dX0_clan_61 (fun r8 μ7 h => ?_)
        refine vv_mmin hC hRo ⟨q1382, q572, q123, q573⟩ (by rw [hRm]; exact ⟨Nat.le_of_ble_eq_true rfl, Nat.le_of_ble_eq_true rfl⟩) dX0_clan_64 ?_
        refine vv_iload_n hC dX0_clan_67 rfl 1 rfl ?_
        refine vv_icmp_gt (tgt := 78) hC dX0_clan_68 rfl (fun c9 => ?_) (fun c9 => ?_)
        · replace h := h.1 c9
          exact L78 _ h5 _ h17 _ h29 _ _ _ _ _ _ h
        · replace h := h.2 c9
          refine vv_iload_n hC dX0_clan_71 rfl 2 rfl ?_
          refine vv_iconst hC dX0_clan_72 xic_1 ?_
          refine vv_iload hC dX0_clan_73 5 rfl ?_
          refine vv_ishl hC dX0_clan_75 ?_
          refine vv_ior hC dX0_clan_76 ?_
          refine vv_topi (fun x10 ex10 => ?_)
          replace h := h x10 ex10
          refine vv_istore_n (lv' := [(3, .int x10), (0, .ref (ad 0)), (2, .int v2), (4, .int v4), (5, .int v5), (6, .int v6)]) hC dX0_clan_77 rfl (by decide) rfl ?_
          refine vv_lv [1, 2, 0, 3, 4, 5] rfl ?_
          exact L78 _ h5 _ h17 _ h29 _ _ _ _ _ _ h
  have L17 : ∀ (P5 : Int32 → Int32 → Int32 → WS → Prop) (h5 : ∀ (v2 : Int32) (v3 : Int32) (v4 : Int32) (μ : WS), P5 v2 v3 v4 μ → VV C 7 (HPW D ac ad (knX S) (ExX D ac ad S) (vS C)) (vQ C (QcW D ac ad (knX S) (qI Q)) 0 0 (inLay ad (knX S))) (μ, ()) 5 [(0, .ref (ad 0)), (2, .int v2), (3, .int v3), (4, .int v4)] []) (v2 : Int32) (v3 : Int32) (v4 : Int32) (v5 : Int32) (μ : WS), w_X0_clan_17 S P5 v2 v3 v4 v5 μ Q → VV C 7 (HPW D ac ad (knX S) (ExX D ac ad S) (vS C)) (vQ C (QcW D ac ad (knX S) (qI Q)) 0 0 (inLay ad (knX S))) (μ, ()) 17 [(0, .ref (ad 0)), (2, .int v2), (3, .int v3), (4, .int v4), (5, .int v5)] [] := by
    intro P5 h5 v2 v3 v4 v5 μ h
    refine h (fun v2 v3 v4 v5 μ => VV C 7 (HPW D ac ad (knX S) (ExX D ac ad S) (vS C)) (vQ C (QcW D ac ad (knX S) (qI Q)) 0 0 (inLay ad (knX S))) (μ, ()) 17 [(0, .ref (ad 0)), (2, .int v2), (3, .int v3), (4, .int v4), (5, .int v5)] []) ?_
    clear h; intro v2 v3 v4 v5 μ h
    have h17 : ∀ (v2 : Int32) (v3 : Int32) (v4 : Int32) (v5 : Int32) (μ : WS), (fun v2 v3 v4 v5 (μ : WS) => VV C 7 (HPW D ac ad (knX S) (ExX D ac ad S) (vS C)) (vQ C (QcW D ac ad (knX S) (qI Q)) 0 0 (inLay ad (knX S))) (μ, ()) 17 [(0, .ref (ad 0)), (2, .int v2), (3, .int v3), (4, .int v4), (5, .int v5)] []) v2 v3 v4 v5 μ → VV C 7 (HPW D ac ad (knX S) (ExX D ac ad S) (vS C)) (vQ C (QcW D ac ad (knX S) (qI Q)) 0 0 (inLay ad (knX S))) (μ, ()) 17 [(0, .ref (ad 0)), (2, .int v2), (3, .int v3), (4, .int v4), (5, .int v5)] [] := fun _ _ _ _ _ h => h
    unfold w_X0_clan_17b at h
    refine vv_iload hC dX0_clan_17 4 rfl ?_
    refine vv_aload_n hC dX0_clan_19 rfl 0 rfl ?_
    refine vv_getf hC hR hK fxX0_321_X0 0 (lx_0 S) rfl dX0_clan_20 ?_
    refine vv_icmp_ge (tgt := 90) hC dX0_clan_23 rfl (fun c2 => ?_) (fun c2 => ?_)
    · replace h := h.1 c2
      refine vv_iinc (pl := 3) (v := v4 + 1) (lv' := [(4, .int (v4 + 1)), (0, .ref (ad 0)), (2, .int v2), (3, .int v3), (5, .int v5)]) hC dX0_clan_90 rfl rfl (by decide) rfl ?_
      refine vv_goto (tgt := 5) hC dX0_clan_93 rfl ?_
      refine vv_lv [1, 2, 3, 0] rfl ?_
      exact h5 _ _ _ _ h
    · replace h := h.2 c2
      refine vv_iconst hC dX0_clan_26 xic_0 ?_
      refine vv_istore (lv' := [(6, .int 0), (0, .ref (ad 0)), (2, .int v2), (3, .int v3), (4, .int v4), (5, .int v5)]) hC dX0_clan_27 (by decide) rfl ?_
      refine vv_lv [1, 2, 3, 4, 5, 0] rfl ?_
      exact L29 _ h5 _ h17 _ _ _ _ _ _ h
  have L5 : ∀ (v2 : Int32) (v3 : Int32) (v4 : Int32) (μ : WS), w_X0_clan_5 S  v2 v3 v4 μ Q → VV C 7 (HPW D ac ad (knX S) (ExX D ac ad S) (vS C)) (vQ C (QcW D ac ad (knX S) (qI Q)) 0 0 (inLay ad (knX S))) (μ, ()) 5 [(0, .ref (ad 0)), (2, .int v2), (3, .int v3), (4, .int v4)] [] := by
    intro  v2 v3 v4 μ h
    refine h (fun v2 v3 v4 μ => VV C 7 (HPW D ac ad (knX S) (ExX D ac ad S) (vS C)) (vQ C (QcW D ac ad (knX S) (qI Q)) 0 0 (inLay ad (knX S))) (μ, ()) 5 [(0, .ref (ad 0)), (2, .int v2), (3, .int v3), (4, .int v4)] []) ?_
    clear h; intro v2 v3 v4 μ h
    have h5 : ∀ (v2 : Int32) (v3 : Int32) (v4 : Int32) (μ : WS), (fun v2 v3 v4 (μ : WS) => VV C 7 (HPW D ac ad (knX S) (ExX D ac ad S) (vS C)) (vQ C (QcW D ac ad (knX S) (qI Q)) 0 0 (inLay ad (knX S))) (μ, ()) 5 [(0, .ref (ad 0)), (2, .int v2), (3, .int v3), (4, .int v4)] []) v2 v3 v4 μ → VV C 7 (HPW D ac ad (knX S) (ExX D ac ad S) (vS C)) (vQ C (QcW D ac ad (knX S) (qI Q)) 0 0 (inLay ad (knX S))) (μ, ()) 5 [(0, .ref (ad 0)), (2, .int v2), (3, .int v3), (4, .int v4)] [] := fun _ _ _ _ h => h
    unfold w_X0_clan_5b at h
    refine vv_iload hC dX0_clan_5 3 rfl ?_
    refine vv_aload_n hC dX0_clan_7 rfl 0 rfl ?_
    refine vv_getf hC hR hK fxX0_321_X0 0 (lx_0 S) rfl dX0_clan_8 ?_
    refine vv_icmp_ge (tgt := 96) hC dX0_clan_11 rfl (fun c1 => ?_) (fun c1 => ?_)
    · replace h := h.1 c1
      refine vv_iload_n hC dX0_clan_96 rfl 2 rfl ?_
      exact vv_iret hC hM dX0_clan_97 h
    · replace h := h.2 c1
      refine vv_iconst hC dX0_clan_14 xic_0 ?_
      refine vv_istore (lv' := [(5, .int 0), (0, .ref (ad 0)), (2, .int v2), (3, .int v3), (4, .int v4)]) hC dX0_clan_15 (by decide) rfl ?_
      refine vv_lv [1, 2, 3, 4, 0] rfl ?_
      exact L17 _ h5 _ _ _ _ _ h
  unfold w_X0_clan at h
  refine vv_iload_n hC dX0_clan_0 rfl 1 rfl ?_
  refine vv_istore_n (lv' := [(3, .int v1), (0, .ref (ad 0)), (1, .int v1), (2, .int v2)]) hC dX0_clan_1 rfl (by decide) rfl ?_
  refine vv_iconst hC dX0_clan_2 xic_0 ?_
  refine vv_istore (lv' := [(4, .int 0), (3, .int v1), (0, .ref (ad 0)), (1, .int v1), (2, .int v2)]) hC dX0_clan_3 (by decide) rfl ?_
  refine vv_lv [2, 4, 1, 0] rfl ?_
  exact L5  _ _ _ _ h
def w_X0_clans_94 (S : XS) (P38 : Int32 → Int32 → Int32 → Int32 → Int32 → Int32 → WS → Prop) (v1 : Int32) (v2 : Int32) (v4 : Int32) (v5 : Int32) (v6 : Int32) (v7 : Int32) (μ : WS) (Q : Int32 → WS → Prop) : Prop := P38 v1 v2 v4 v5 v6 (v7 + 1) μ
def w_X0_clans_38b (S : XS) (P38 : Int32 → Int32 → Int32 → Int32 → Int32 → Int32 → WS → Prop) (v1 : Int32) (v2 : Int32) (v4 : Int32) (v5 : Int32) (v6 : Int32) (v7 : Int32) (μ : WS) (Q : Int32 → WS → Prop) : Prop := ((μ.1 0 24 ≤ v7) → ((¬ v2 = 0) → Q v6 μ) ∧ ((v2 = 0) → Q v5 μ)) ∧ ((¬ μ.1 0 24 ≤ v7) → ((¬ (v4 >>> (v7 &&& 31)) &&& 1 = 1) → (w_X0_clan S (1 <<< (v7 &&& 31)) v1 μ (fun r13 μ12 => (∀ x14 : Int32, x14 = v4 ||| r13 → (w_J15_bitCount S r13 μ12 (fun r16 μ15 => (∀ x17 : Int32, x17 = (if v6 < r16 then r16 else v6) → w_X0_clans_94 S P38 v1 v2 x14 (v5 + 1) x17 v7 μ15 Q))))))) ∧ (((v4 >>> (v7 &&& 31)) &&& 1 = 1) → w_X0_clans_94 S P38 v1 v2 v4 v5 v6 v7 μ Q))
def w_X0_clans_38 (S : XS) (v1 : Int32) (v2 : Int32) (v4 : Int32) (v5 : Int32) (v6 : Int32) (v7 : Int32) (μ : WS) (Q : Int32 → WS → Prop) : Prop := ∀ P38 : Int32 → Int32 → Int32 → Int32 → Int32 → Int32 → WS → Prop, (∀ (v1 : Int32) (v2 : Int32) (v4 : Int32) (v5 : Int32) (v6 : Int32) (v7 : Int32) (μ : WS), w_X0_clans_38b S  P38 v1 v2 v4 v5 v6 v7 μ Q → P38 v1 v2 v4 v5 v6 v7 μ) → P38 v1 v2 v4 v5 v6 v7 μ
def w_X0_clans (S : XS) (v1 : Int32) (v2 : Int32) (v3 : Int32) (μ : WS) (Q : Int32 → WS → Prop) : Prop := (w_X0_isIn S v1 0 24 μ (fun r2 μ1 => ((r2 = 0) → Q (-1) μ1) ∧ ((¬ r2 = 0) → (w_X0_isIn S v2 0 1 μ1 (fun r5 μ4 => ((¬ r5 = 0) → (w_X0_laySamples S v3 μ4 (fun μ7 => w_X0_clans_38 S v1 v2 0 0 0 0 μ7 Q))) ∧ ((r5 = 0) → Q (-1) μ4))))))
abbrev rm_X0_clans : Room := { frames := 4, cells := 0, slots := 0, locals := 90 }
theorem mf_X0_clans : MFact yX0_clans 3 rm_X0_clans := ⟨by decide +kernel, rfl, rfl⟩
set_option maxHeartbeats 4000000 in
theorem met_X0_clans (l : Launch) (D : va_G) (ac : Nat → ClassId) (ad : Nat → Nat) (S : XS) (hLay : LayOk ad (knX S)) (v1 : Int32) (v2 : Int32) (v3 : Int32) (μ : WS) (Q : Int32 → WS → Prop) (h : w_X0_clans S v1 v2 v3 μ Q) : CMet l yX0_clans cX0_clans 9 (some .int) rm_X0_clans D ac ad (knX S) (ExX D ac ad S) [.ref (ad 0), .int v1, .int v2, .int v3] μ (qI Q) := by
  refine vv_met (lv := [(0, .ref (ad 0)), (1, .int v1), (2, .int v2), (3, .int v3)]) (by decide) hLay exX_ok (Nat.le_of_ble_eq_true rfl) rfl ⟨rfl, rfl⟩ (fun C hC hK hRm hLl hR hM => ?_)
  subst hLl
  have hRo : RoomOk (HPW D ac ad (knX S) (ExX D ac ad S) (vS C)) (vR C) := HPW.room
  have L94 : ∀ (P38 : Int32 → Int32 → Int32 → Int32 → Int32 → Int32 → WS → Prop) (h38 : ∀ (v1 : Int32) (v2 : Int32) (v4 : Int32) (v5 : Int32) (v6 : Int32) (v7 : Int32) (μ : WS), P38 v1 v2 v4 v5 v6 v7 μ → VV C 9 (HPW D ac ad (knX S) (ExX D ac ad S) (vS C)) (vQ C (QcW D ac ad (knX S) (qI Q)) 0 0 (inLay ad (knX S))) (μ, ()) 38 [(0, .ref (ad 0)), (1, .int v1), (2, .int v2), (4, .int v4), (5, .int v5), (6, .int v6), (7, .int v7)] []) (v1 : Int32) (v2 : Int32) (v4 : Int32) (v5 : Int32) (v6 : Int32) (v7 : Int32) (μ : WS), w_X0_clans_94 S P38 v1 v2 v4 v5 v6 v7 μ Q → VV C 9 (HPW D ac ad (knX S) (ExX D ac ad S) (vS C)) (vQ C (QcW D ac ad (knX S) (qI Q)) 0 0 (inLay ad (knX S))) (μ, ()) 94 [(0, .ref (ad 0)), (1, .int v1), (2, .int v2), (4, .int v4), (5, .int v5), (6, .int v6), (7, .int v7)] [] := by
    intro P38 h38 v1 v2 v4 v5 v6 v7 μ h
    unfold w_X0_clans_94 at h
    refine vv_iinc (pl := 6) (v := v7 + 1) (lv' := [(7, .int (v7 + 1)), (0, .ref (ad 0)), (1, .int v1), (2, .int v2), (4, .int v4), (5, .int v5), (6, .int v6)]) hC dX0_clans_94 rfl rfl (by decide) rfl ?_
    refine vv_goto (tgt := 38) hC dX0_clans_97 rfl ?_
    refine vv_lv [1, 2, 3, 4, 5, 6, 0] rfl ?_
    exact h38 _ _ _ _ _ _ _ h
  have L38 : ∀ (v1 : Int32) (v2 : Int32) (v4 : Int32) (v5 : Int32) (v6 : Int32) (v7 : Int32) (μ : WS), w_X0_clans_38 S  v1 v2 v4 v5 v6 v7 μ Q → VV C 9 (HPW D ac ad (knX S) (ExX D ac ad S) (vS C)) (vQ C (QcW D ac ad (knX S) (qI Q)) 0 0 (inLay ad (knX S))) (μ, ()) 38 [(0, .ref (ad 0)), (1, .int v1), (2, .int v2), (4, .int v4), (5, .int v5), (6, .int v6), (7, .int v7)] [] := by
    intro  v1 v2 v4 v5 v6 v7 μ h
    refine h (fun v1 v2 v4 v5 v6 v7 μ => VV C 9 (HPW D ac ad (knX S) (ExX D ac ad S) (vS C)) (vQ C (QcW D ac ad (knX S) (qI Q)) 0 0 (inLay ad (knX S))) (μ, ()) 38 [(0, .ref (ad 0)), (1, .int v1), (2, .int v2), (4, .int v4), (5, .int v5), (6, .int v6), (7, .int v7)] []) ?_
    clear h; intro v1 v2 v4 v5 v6 v7 μ h
    have h38 : ∀ (v1 : Int32) (v2 : Int32) (v4 : Int32) (v5 : Int32) (v6 : Int32) (v7 : Int32) (μ : WS), (fun v1 v2 v4 v5 v6 v7 (μ : WS) => VV C 9 (HPW D ac ad (knX S) (ExX D ac ad S) (vS C)) (vQ C (QcW D ac ad (knX S) (qI Q)) 0 0 (inLay ad (knX S))) (μ, ()) 38 [(0, .ref (ad 0)), (1, .int v1), (2, .int v2), (4, .int v4), (5, .int v5), (6, .int v6), (7, .int v7)] []) v1 v2 v4 v5 v6 v7 μ → VV C 9 (HPW D ac ad (knX S) (ExX D ac ad S) (vS C)) (vQ C (QcW D ac ad (knX S) (qI Q)) 0 0 (inLay ad (knX S))) (μ, ()) 38 [(0, .ref (ad 0)), (1, .int v1), (2, .int v2), (4, .int v4), (5, .int v5), (6, .int v6), (7, .int v7)] [] := fun _ _ _ _ _ _ _ h => h
    unfold w_X0_clans_38b at h
    refine vv_iload hC dX0_clans_38 6 rfl ?_
    refine vv_aload_n hC dX0_clans_40 rfl 0 rfl ?_
    refine vv_getf hC hR hK fxX0_321_X0 0 (lx_0 S) rfl dX0_clans_41 ?_
    refine vv_icmp_ge (tgt := 100) hC dX0_clans_44 rfl (fun c9 => ?_) (fun c9 => ?_)
    · replace h := h.1 c9
      refine vv_iload_n hC dX0_clans_100 rfl 2 rfl ?_
      refine vv_if_ne (tgt := 109) hC dX0_clans_101 rfl (fun c10 => ?_) (fun c10 => ?_)
      · replace h := h.1 c10
        refine vv_iload hC dX0_clans_109 5 rfl ?_
        exact vv_iret hC hM dX0_clans_111 h
      · replace h := h.2 c10
        refine vv_iload hC dX0_clans_104 4 rfl ?_
        refine vv_goto (tgt := 111) hC dX0_clans_106 rfl ?_
        exact vv_iret hC hM dX0_clans_111 h
    · replace h := h.2 c9
      refine vv_iload hC dX0_clans_47 3 rfl ?_
      refine vv_iload hC dX0_clans_49 6 rfl ?_
      refine vv_ishr hC dX0_clans_51 ?_
      refine vv_iconst hC dX0_clans_52 xic_1 ?_
      refine vv_iand hC dX0_clans_53 ?_
      refine vv_iconst hC dX0_clans_54 xic_1 ?_
      refine vv_icmp_ne (tgt := 61) hC dX0_clans_55 rfl (fun c11 => ?_) (fun c11 => ?_)
      · replace h := h.1 c11
        refine vv_aload_n hC dX0_clans_61 rfl 0 rfl ?_
        refine vv_iconst hC dX0_clans_62 xic_1 ?_
        refine vv_iload hC dX0_clans_63 6 rfl ?_
        refine vv_ishl hC dX0_clans_65 ?_
        refine vv_iload_n hC dX0_clans_66 rfl 1 rfl ?_
        refine vv_callVi hC hR hK hRo hRm [.int (1 <<< (v7 &&& 31)), .int v1] [] (met_X0_clan (vL C) D ac ad S hLay (1 <<< (v7 &&& 31)) v1 μ _ h) gxX0_356 mf_X0_clan rfl (lx_0 S) rfl rfl rfl rfl dX0_clans_67 (fun r13 μ12 h => ?_)
        refine vv_istore (lv' := [(8, .int r13), (0, .ref (ad 0)), (1, .int v1), (2, .int v2), (4, .int v4), (5, .int v5), (6, .int v6), (7, .int v7)]) hC dX0_clans_70 (by decide) rfl ?_
        refine vv_iload hC dX0_clans_72 4 rfl ?_
        refine vv_iload hC dX0_clans_74 0 rfl ?_
        refine vv_ior hC dX0_clans_76 ?_
        refine vv_topi (fun x14 ex14 => ?_)
        replace h := h x14 ex14
        refine vv_istore (lv' := [(4, .int x14), (8, .int r13), (0, .ref (ad 0)), (1, .int v1), (2, .int v2), (5, .int v5), (6, .int v6), (7, .int v7)]) hC dX0_clans_77 (by decide) rfl ?_
        refine vv_iinc (pl := 5) (v := v5 + 1) (lv' := [(5, .int (v5 + 1)), (4, .int x14), (8, .int r13), (0, .ref (ad 0)), (1, .int v1), (2, .int v2), (6, .int v6), (7, .int v7)]) hC dX0_clans_79 rfl rfl (by decide) rfl ?_
        refine vv_iload hC dX0_clans_82 6 rfl ?_
        refine vv_iload hC dX0_clans_84 2 rfl ?_
        refine vv_callSi hC hR hK hRo hRm [.int r13] [.int v6] (met_J15_bitCount (vL C) D ac ad S hLay r13 μ12 _ h) gxX0_240 mf_J15_bitCount rfl rfl rfl dX0_clans_86 (fun r16 μ15 h => ?_)
        refine vv_mmax hC hRo ⟨q1565, q554, q123, q555⟩ (by rw [hRm]; exact ⟨Nat.le_of_ble_eq_true rfl, Nat.le_of_ble_eq_true rfl⟩) dX0_clans_89 ?_
        refine vv_topi (fun x17 ex17 => ?_)
        replace h := h x17 ex17
        refine vv_istore (lv' := [(6, .int x17), (5, .int (v5 + 1)), (4, .int x14), (8, .int r13), (0, .ref (ad 0)), (1, .int v1), (2, .int v2), (7, .int v7)]) hC dX0_clans_92 (by decide) rfl ?_
        refine vv_lv [4, 5, 6, 2, 1, 0, 7] rfl ?_
        exact L94 _ h38 _ _ _ _ _ _ _ h
      · replace h := h.2 c11
        refine vv_goto (tgt := 94) hC dX0_clans_58 rfl ?_
        exact L94 _ h38 _ _ _ _ _ _ _ h
  unfold w_X0_clans at h
  refine vv_iload_n hC dX0_clans_0 rfl 1 rfl ?_
  refine vv_iconst hC dX0_clans_1 xic_0 ?_
  refine vv_bipush hC dX0_clans_2 xbp_24 ?_
  refine vv_callSi hC hR hK hRo hRm [.int v1, .int 0, .int 24] [] (met_X0_isIn (vL C) D ac ad S hLay v1 0 24 μ _ h) gxX0_150 mf_X0_isIn rfl rfl rfl dX0_clans_4 (fun r2 μ1 h => ?_)
  refine vv_if_eq (tgt := 19) hC dX0_clans_7 rfl (fun c3 => ?_) (fun c3 => ?_)
  · replace h := h.1 c3
    refine vv_iconst hC dX0_clans_19 xic_m1 ?_
    exact vv_iret hC hM dX0_clans_20 h
  · replace h := h.2 c3
    refine vv_iload_n hC dX0_clans_10 rfl 2 rfl ?_
    refine vv_iconst hC dX0_clans_11 xic_0 ?_
    refine vv_iconst hC dX0_clans_12 xic_1 ?_
    refine vv_callSi hC hR hK hRo hRm [.int v2, .int 0, .int 1] [] (met_X0_isIn (vL C) D ac ad S hLay v2 0 1 μ1 _ h) gxX0_150 mf_X0_isIn rfl rfl rfl dX0_clans_13 (fun r5 μ4 h => ?_)
    refine vv_if_ne (tgt := 21) hC dX0_clans_16 rfl (fun c6 => ?_) (fun c6 => ?_)
    · replace h := h.1 c6
      refine vv_aload_n hC dX0_clans_21 rfl 0 rfl ?_
      refine vv_iload_n hC dX0_clans_22 rfl 3 rfl ?_
      refine vv_callVv hC hR hK hRo hRm [.int v3] [] (met_X0_laySamples (vL C) D ac ad S hLay v3 μ4 _ h) gxX0_347 mf_X0_laySamples rfl (lx_0 S) rfl rfl rfl rfl dX0_clans_23 (fun μ7 h => ?_)
      refine vv_iconst hC dX0_clans_26 xic_0 ?_
      refine vv_istore (lv' := [(4, .int 0), (0, .ref (ad 0)), (1, .int v1), (2, .int v2), (3, .int v3)]) hC dX0_clans_27 (by decide) rfl ?_
      refine vv_iconst hC dX0_clans_29 xic_0 ?_
      refine vv_istore (lv' := [(5, .int 0), (4, .int 0), (0, .ref (ad 0)), (1, .int v1), (2, .int v2), (3, .int v3)]) hC dX0_clans_30 (by decide) rfl ?_
      refine vv_iconst hC dX0_clans_32 xic_0 ?_
      refine vv_istore (lv' := [(6, .int 0), (5, .int 0), (4, .int 0), (0, .ref (ad 0)), (1, .int v1), (2, .int v2), (3, .int v3)]) hC dX0_clans_33 (by decide) rfl ?_
      refine vv_iconst hC dX0_clans_35 xic_0 ?_
      refine vv_istore (lv' := [(7, .int 0), (6, .int 0), (5, .int 0), (4, .int 0), (0, .ref (ad 0)), (1, .int v1), (2, .int v2), (3, .int v3)]) hC dX0_clans_36 (by decide) rfl ?_
      refine vv_lv [4, 5, 6, 3, 2, 1, 0] rfl ?_
      exact L38  _ _ _ _ _ _ _ h
    · replace h := h.2 c6
      refine vv_iconst hC dX0_clans_19 xic_m1 ?_
      exact vv_iret hC hM dX0_clans_20 h
def w_X0_origin_183 (S : XS) (P19 : Int32 → Int32 → Int32 → Int32 → Int32 → WS → Prop) (s0 : Int32) (s1 : Int32) (v1 : Int32) (v2 : Int32) (v4 : Int32) (v5 : Int32) (v6 : Int32) (v7 : Int32) (μ : WS) (Q : Int32 → WS → Prop) : Prop := (∀ x26 : Int32, x26 = s1 ||| s0 → (∀ x27 : Int32, x27 = v4 + (if 2 * v6 < v7 then 2 * v6 else v7) → P19 v1 v2 x26 x27 (v5 + 1) μ))
def w_X0_origin_159 (S : XS) (P19 : Int32 → Int32 → Int32 → Int32 → Int32 → WS → Prop) (P40 : Int32 → Int32 → Int32 → Int32 → Int32 → Int32 → Int32 → Int32 → WS → Prop) (v1 : Int32) (v2 : Int32) (v3 : Int32) (v4 : Int32) (v5 : Int32) (v6 : Int32) (v7 : Int32) (v8 : Int32) (μ : WS) (Q : Int32 → WS → Prop) : Prop := P40 v1 v2 v3 v4 v5 v6 v7 (v8 + 1) μ
def w_X0_origin_131 (S : XS) (P19 : Int32 → Int32 → Int32 → Int32 → Int32 → WS → Prop) (P40 : Int32 → Int32 → Int32 → Int32 → Int32 → Int32 → Int32 → Int32 → WS → Prop) (s0 : Int32) (v1 : Int32) (v2 : Int32) (v3 : Int32) (v4 : Int32) (v5 : Int32) (v6 : Int32) (v7 : Int32) (v8 : Int32) (μ : WS) (Q : Int32 → WS → Prop) : Prop := (∀ x24 : Int32, x24 = v6 + ((s0 >>> (v5 &&& 31)) &&& 1) → (∀ x25 : Int32, x25 = v7 + (1 - ((s0 >>> (v5 &&& 31)) &&& 1)) → w_X0_origin_159 S P19 P40 v1 v2 v3 v4 v5 x24 x25 v8 μ Q))
def w_X0_origin_40b (S : XS) (P19 : Int32 → Int32 → Int32 → Int32 → Int32 → WS → Prop) (P40 : Int32 → Int32 → Int32 → Int32 → Int32 → Int32 → Int32 → Int32 → WS → Prop) (v1 : Int32) (v2 : Int32) (v3 : Int32) (v4 : Int32) (v5 : Int32) (v6 : Int32) (v7 : Int32) (v8 : Int32) (μ : WS) (Q : Int32 → WS → Prop) : Prop := (w_J2_size_120 S μ (fun r7 μ6 => ((r7 ≤ v8) → ((2 * v6 ≤ v7) → w_X0_origin_183 S P19 0 v3 v1 v2 v4 v5 v6 v7 μ6 Q) ∧ ((¬ 2 * v6 ≤ v7) → w_X0_origin_183 S P19 (1 <<< (v5 &&& 31)) v3 v1 v2 v4 v5 v6 v7 μ6 Q)) ∧ ((¬ r7 ≤ v8) → (w_J2_get_120 S v8 μ6 (fun r11 μ10 => ((isFactA S r11) ∧ ((isFactA S r11) ∧ (w_X11_isKnown S r11 v2 μ10 (fun r13 μ12 => ((r13 = 0) → w_X0_origin_159 S P19 P40 v1 v2 v3 v4 v5 v6 v7 v8 μ12 Q) ∧ ((¬ r13 = 0) → (w_J2_get_120 S v8 μ12 (fun r16 μ15 => ((isFactA S r16) ∧ ((¬ (if S.2.1 r16 = 0 then (1 : Int32) else 0) = 0) → (w_J2_get_120 S v8 μ15 (fun r20 μ19 => ((isFactR S 0 r20) ∧ ((isFactR S 0 r20) ∧ ((μ19.1 r20 3 = 0) → ((isFactR S 0 r20) ∧ w_X0_origin_131 S P19 P40 (μ19.1 r20 2) v1 v2 v3 v4 v5 v6 v7 v8 μ19 Q)) ∧ ((¬ μ19.1 r20 3 = 0) → ((isFactR S 0 r20) ∧ (w_X1_turn S (μ19.1 r20 2) μ19 (fun r23 μ22 => w_X0_origin_131 S P19 P40 r23 v1 v2 v3 v4 v5 v6 v7 v8 μ22 Q))))))))) ∧ (((if S.2.1 r16 = 0 then (1 : Int32) else 0) = 0) → w_X0_origin_159 S P19 P40 v1 v2 v3 v4 v5 v6 v7 v8 μ15 Q))))))))))))))
def w_X0_origin_40 (S : XS) (P19 : Int32 → Int32 → Int32 → Int32 → Int32 → WS → Prop) (v1 : Int32) (v2 : Int32) (v3 : Int32) (v4 : Int32) (v5 : Int32) (v6 : Int32) (v7 : Int32) (v8 : Int32) (μ : WS) (Q : Int32 → WS → Prop) : Prop := ∀ P40 : Int32 → Int32 → Int32 → Int32 → Int32 → Int32 → Int32 → Int32 → WS → Prop, (∀ (v1 : Int32) (v2 : Int32) (v3 : Int32) (v4 : Int32) (v5 : Int32) (v6 : Int32) (v7 : Int32) (v8 : Int32) (μ : WS), w_X0_origin_40b S P19 P40 v1 v2 v3 v4 v5 v6 v7 v8 μ Q → P40 v1 v2 v3 v4 v5 v6 v7 v8 μ) → P40 v1 v2 v3 v4 v5 v6 v7 v8 μ
def w_X0_origin_19b (S : XS) (P19 : Int32 → Int32 → Int32 → Int32 → Int32 → WS → Prop) (v1 : Int32) (v2 : Int32) (v3 : Int32) (v4 : Int32) (v5 : Int32) (μ : WS) (Q : Int32 → WS → Prop) : Prop := ((μ.1 104 2 ≤ v5) → ((¬ v1 = 0) → Q v4 μ) ∧ ((v1 = 0) → Q v3 μ)) ∧ ((¬ μ.1 104 2 ≤ v5) → w_X0_origin_40 S P19 v1 v2 v3 v4 v5 0 0 0 μ Q)
def w_X0_origin_19 (S : XS) (v1 : Int32) (v2 : Int32) (v3 : Int32) (v4 : Int32) (v5 : Int32) (μ : WS) (Q : Int32 → WS → Prop) : Prop := ∀ P19 : Int32 → Int32 → Int32 → Int32 → Int32 → WS → Prop, (∀ (v1 : Int32) (v2 : Int32) (v3 : Int32) (v4 : Int32) (v5 : Int32) (μ : WS), w_X0_origin_19b S  P19 v1 v2 v3 v4 v5 μ Q → P19 v1 v2 v3 v4 v5 μ) → P19 v1 v2 v3 v4 v5 μ
def w_X0_origin (S : XS) (v1 : Int32) (v2 : Int32) (μ : WS) (Q : Int32 → WS → Prop) : Prop := (w_X0_isIn S v1 0 1 μ (fun r2 μ1 => ((¬ r2 = 0) → w_X0_origin_19 S v1 v2 0 0 0 μ1 Q) ∧ ((r2 = 0) → Q (-1) μ1)))
abbrev rm_X0_origin : Room := { frames := 3, cells := 0, slots := 0, locals := 64 }
theorem mf_X0_origin : MFact yX0_origin 2 rm_X0_origin := ⟨by decide +kernel, rfl, rfl⟩
set_option maxHeartbeats 4000000 in
theorem met_X0_origin (l : Launch) (D : va_G) (ac : Nat → ClassId) (ad : Nat → Nat) (S : XS) (hLay : LayOk ad (knX S)) (v1 : Int32) (v2 : Int32) (μ : WS) (Q : Int32 → WS → Prop) (h : w_X0_origin S v1 v2 μ Q) : CMet l yX0_origin cX0_origin 11 (some .int) rm_X0_origin D ac ad (knX S) (ExX D ac ad S) [.ref (ad 0), .int v1, .int v2] μ (qI Q) := by
  refine vv_met (lv := [(0, .ref (ad 0)), (1, .int v1), (2, .int v2)]) (by decide) hLay exX_ok (Nat.le_of_ble_eq_true rfl) rfl ⟨rfl, rfl⟩ (fun C hC hK hRm hLl hR hM => ?_)
  subst hLl
  have hRo : RoomOk (HPW D ac ad (knX S) (ExX D ac ad S) (vS C)) (vR C) := HPW.room
  have L183 : ∀ (P19 : Int32 → Int32 → Int32 → Int32 → Int32 → WS → Prop) (h19 : ∀ (v1 : Int32) (v2 : Int32) (v3 : Int32) (v4 : Int32) (v5 : Int32) (μ : WS), P19 v1 v2 v3 v4 v5 μ → VV C 11 (HPW D ac ad (knX S) (ExX D ac ad S) (vS C)) (vQ C (QcW D ac ad (knX S) (qI Q)) 0 0 (inLay ad (knX S))) (μ, ()) 19 [(0, .ref (ad 0)), (1, .int v1), (2, .int v2), (3, .int v3), (4, .int v4), (5, .int v5)] []) (s0 : Int32) (s1 : Int32) (v1 : Int32) (v2 : Int32) (v4 : Int32) (v5 : Int32) (v6 : Int32) (v7 : Int32) (μ : WS), w_X0_origin_183 S P19 s0 s1 v1 v2 v4 v5 v6 v7 μ Q → VV C 11 (HPW D ac ad (knX S) (ExX D ac ad S) (vS C)) (vQ C (QcW D ac ad (knX S) (qI Q)) 0 0 (inLay ad (knX S))) (μ, ()) 183 [(0, .ref (ad 0)), (1, .int v1), (2, .int v2), (4, .int v4), (5, .int v5), (6, .int v6), (7, .int v7)] [.int s0, .int s1] := by
    intro P19 h19 s0 s1 v1 v2 v4 v5 v6 v7 μ h
    unfold w_X0_origin_183 at h
    refine vv_ior hC dX0_origin_183 ?_
    refine vv_topi (fun x26 ex26 => ?_)
    replace h := h x26 ex26
    refine vv_istore_n (lv' := [(3, .int x26), (0, .ref (ad 0)), (1, .int v1), (2, .int v2), (4, .int v4), (5, .int v5), (6, .int v6), (7, .int v7)]) hC dX0_origin_184 rfl (by decide) rfl ?_
    refine vv_iload hC dX0_origin_185 4 rfl ?_
    refine vv_iload hC dX0_origin_187 7 rfl ?_
    refine vv_iconst hC dX0_origin_189 xic_2 ?_
    refine vv_iload hC dX0_origin_190 6 rfl ?_
    refine vv_imul hC dX0_origin_192 ?_
    refine vv_mmin hC hRo ⟨q1382, q572, q123, q573⟩ (by rw [hRm]; exact ⟨Nat.le_of_ble_eq_true rfl, Nat.le_of_ble_eq_true rfl⟩) dX0_origin_193 ?_
    refine vv_iadd hC dX0_origin_196 ?_
    refine vv_topi (fun x27 ex27 => ?_)
    replace h := h x27 ex27
    refine vv_istore (lv' := [(4, .int x27), (3, .int x26), (0, .ref (ad 0)), (1, .int v1), (2, .int v2), (5, .int v5), (6, .int v6), (7, .int v7)]) hC dX0_origin_197 (by decide) rfl ?_
    refine vv_iinc (pl := 5) (v := v5 + 1) (lv' := [(5, .int (v5 + 1)), (4, .int x27), (3, .int x26), (0, .ref (ad 0)), (1, .int v1), (2, .int v2), (6, .int v6), (7, .int v7)]) hC dX0_origin_199 rfl rfl (by decide) rfl ?_
    refine vv_goto (tgt := 19) hC dX0_origin_202 rfl ?_
    refine vv_lv [3, 4, 5, 2, 1, 0] rfl ?_
    exact h19 _ _ _ _ _ _ h
  have L159 : ∀ (P19 : Int32 → Int32 → Int32 → Int32 → Int32 → WS → Prop) (h19 : ∀ (v1 : Int32) (v2 : Int32) (v3 : Int32) (v4 : Int32) (v5 : Int32) (μ : WS), P19 v1 v2 v3 v4 v5 μ → VV C 11 (HPW D ac ad (knX S) (ExX D ac ad S) (vS C)) (vQ C (QcW D ac ad (knX S) (qI Q)) 0 0 (inLay ad (knX S))) (μ, ()) 19 [(0, .ref (ad 0)), (1, .int v1), (2, .int v2), (3, .int v3), (4, .int v4), (5, .int v5)] []) (P40 : Int32 → Int32 → Int32 → Int32 → Int32 → Int32 → Int32 → Int32 → WS → Prop) (h40 : ∀ (v1 : Int32) (v2 : Int32) (v3 : Int32) (v4 : Int32) (v5 : Int32) (v6 : Int32) (v7 : Int32) (v8 : Int32) (μ : WS), P40 v1 v2 v3 v4 v5 v6 v7 v8 μ → VV C 11 (HPW D ac ad (knX S) (ExX D ac ad S) (vS C)) (vQ C (QcW D ac ad (knX S) (qI Q)) 0 0 (inLay ad (knX S))) (μ, ()) 40 [(0, .ref (ad 0)), (1, .int v1), (2, .int v2), (3, .int v3), (4, .int v4), (5, .int v5), (6, .int v6), (7, .int v7), (8, .int v8)] []) (v1 : Int32) (v2 : Int32) (v3 : Int32) (v4 : Int32) (v5 : Int32) (v6 : Int32) (v7 : Int32) (v8 : Int32) (μ : WS), w_X0_origin_159 S P19 P40 v1 v2 v3 v4 v5 v6 v7 v8 μ Q → VV C 11 (HPW D ac ad (knX S) (ExX D ac ad S) (vS C)) (vQ C (QcW D ac ad (knX S) (qI Q)) 0 0 (inLay ad (knX S))) (μ, ()) 159 [(0, .ref (ad 0)), (1, .int v1), (2, .int v2), (3, .int v3), (4, .int v4), (5, .int v5), (6, .int v6), (7, .int v7), (8, .int v8)] [] := by
    intro P19 h19 P40 h40 v1 v2 v3 v4 v5 v6 v7 v8 μ h
    unfold w_X0_origin_159 at h
    refine vv_iinc (pl := 8) (v := v8 + 1) (lv' := [(8, .int (v8 + 1)), (0, .ref (ad 0)), (1, .int v1), (2, .int v2), (3, .int v3), (4, .int v4), (5, .int v5), (6, .int v6), (7, .int v7)]) hC dX0_origin_159 rfl rfl (by decide) rfl ?_
    refine vv_goto (tgt := 40) hC dX0_origin_162 rfl ?_
    refine vv_lv [1, 2, 3, 4, 5, 6, 7, 8, 0] rfl ?_
    exact h40 _ _ _ _ _ _ _ _ _ h
  have L131 : ∀ (P19 : Int32 → Int32 → Int32 → Int32 → Int32 → WS → Prop) (h19 : ∀ (v1 : Int32) (v2 : Int32) (v3 : Int32) (v4 : Int32) (v5 : Int32) (μ : WS), P19 v1 v2 v3 v4 v5 μ → VV C 11 (HPW D ac ad (knX S) (ExX D ac ad S) (vS C)) (vQ C (QcW D ac ad (knX S) (qI Q)) 0 0 (inLay ad (knX S))) (μ, ()) 19 [(0, .ref (ad 0)), (1, .int v1), (2, .int v2), (3, .int v3), (4, .int v4), (5, .int v5)] []) (P40 : Int32 → Int32 → Int32 → Int32 → Int32 → Int32 → Int32 → Int32 → WS → Prop) (h40 : ∀ (v1 : Int32) (v2 : Int32) (v3 : Int32) (v4 : Int32) (v5 : Int32) (v6 : Int32) (v7 : Int32) (v8 : Int32) (μ : WS), P40 v1 v2 v3 v4 v5 v6 v7 v8 μ → VV C 11 (HPW D ac ad (knX S) (ExX D ac ad S) (vS C)) (vQ C (QcW D ac ad (knX S) (qI Q)) 0 0 (inLay ad (knX S))) (μ, ()) 40 [(0, .ref (ad 0)), (1, .int v1), (2, .int v2), (3, .int v3), (4, .int v4), (5, .int v5), (6, .int v6), (7, .int v7), (8, .int v8)] []) (s0 : Int32) (v1 : Int32) (v2 : Int32) (v3 : Int32) (v4 : Int32) (v5 : Int32) (v6 : Int32) (v7 : Int32) (v8 : Int32) (μ : WS), w_X0_origin_131 S P19 P40 s0 v1 v2 v3 v4 v5 v6 v7 v8 μ Q → VV C 11 (HPW D ac ad (knX S) (ExX D ac ad S) (vS C)) (vQ C (QcW D ac ad (knX S) (qI Q)) 0 0 (inLay ad (knX S))) (μ, ()) 131 [(0, .ref (ad 0)), (1, .int v1), (2, .int v2), (3, .int v3), (4, .int v4), (5, .int v5), (6, .int v6), (7, .int v7), (8, .int v8)] [.int s0] := by
    intro P19 h19 P40 h40 s0 v1 v2 v3 v4 v5 v6 v7 v8 μ h
    unfold w_X0_origin_131 at h
    refine vv_istore (lv' := [(10, .int s0), (0, .ref (ad 0)), (1, .int v1), (2, .int v2), (3, .int v3), (4, .int v4), (5, .int v5), (6, .int v6), (7, .int v7), (8, .int v8)]) hC dX0_origin_131 (by decide) rfl ?_
    refine vv_iload hC dX0_origin_133 7 rfl ?_
    refine vv_iload hC dX0_origin_135 0 rfl ?_
    refine vv_iload hC dX0_origin_137 6 rfl ?_
    refine vv_ishr hC dX0_origin_139 ?_
    refine vv_iconst hC dX0_origin_140 xic_1 ?_
    refine vv_iand hC dX0_origin_141 ?_
    refine vv_iadd hC dX0_origin_142 ?_
    refine vv_topi (fun x24 ex24 => ?_)
    replace h := h x24 ex24
    refine vv_istore (lv' := [(6, .int x24), (10, .int s0), (0, .ref (ad 0)), (1, .int v1), (2, .int v2), (3, .int v3), (4, .int v4), (5, .int v5), (7, .int v7), (8, .int v8)]) hC dX0_origin_143 (by decide) rfl ?_
    refine vv_iload hC dX0_origin_145 8 rfl ?_
    refine vv_iconst hC dX0_origin_147 xic_1 ?_
    refine vv_iload hC dX0_origin_148 1 rfl ?_
    refine vv_iload hC dX0_origin_150 7 rfl ?_
    refine vv_ishr hC dX0_origin_152 ?_
    refine vv_iconst hC dX0_origin_153 xic_1 ?_
    refine vv_iand hC dX0_origin_154 ?_
    refine vv_isub hC dX0_origin_155 ?_
    refine vv_iadd hC dX0_origin_156 ?_
    refine vv_topi (fun x25 ex25 => ?_)
    replace h := h x25 ex25
    refine vv_istore (lv' := [(7, .int x25), (6, .int x24), (10, .int s0), (0, .ref (ad 0)), (1, .int v1), (2, .int v2), (3, .int v3), (4, .int v4), (5, .int v5), (8, .int v8)]) hC dX0_origin_157 (by decide) rfl ?_
    refine vv_lv [3, 4, 5, 6, 7, 8, 1, 0, 9] rfl ?_
    exact L159 _ h19 _ h40 _ _ _ _ _ _ _ _ _ h
  have L40 : ∀ (P19 : Int32 → Int32 → Int32 → Int32 → Int32 → WS → Prop) (h19 : ∀ (v1 : Int32) (v2 : Int32) (v3 : Int32) (v4 : Int32) (v5 : Int32) (μ : WS), P19 v1 v2 v3 v4 v5 μ → VV C 11 (HPW D ac ad (knX S) (ExX D ac ad S) (vS C)) (vQ C (QcW D ac ad (knX S) (qI Q)) 0 0 (inLay ad (knX S))) (μ, ()) 19 [(0, .ref (ad 0)), (1, .int v1), (2, .int v2), (3, .int v3), (4, .int v4), (5, .int v5)] []) (v1 : Int32) (v2 : Int32) (v3 : Int32) (v4 : Int32) (v5 : Int32) (v6 : Int32) (v7 : Int32) (v8 : Int32) (μ : WS), w_X0_origin_40 S P19 v1 v2 v3 v4 v5 v6 v7 v8 μ Q → VV C 11 (HPW D ac ad (knX S) (ExX D ac ad S) (vS C)) (vQ C (QcW D ac ad (knX S) (qI Q)) 0 0 (inLay ad (knX S))) (μ, ()) 40 [(0, .ref (ad 0)), (1, .int v1), (2, .int v2), (3, .int v3), (4, .int v4), (5, .int v5), (6, .int v6), (7, .int v7), (8, .int v8)] [] := by
    intro P19 h19 v1 v2 v3 v4 v5 v6 v7 v8 μ h
    refine h (fun v1 v2 v3 v4 v5 v6 v7 v8 μ => VV C 11 (HPW D ac ad (knX S) (ExX D ac ad S) (vS C)) (vQ C (QcW D ac ad (knX S) (qI Q)) 0 0 (inLay ad (knX S))) (μ, ()) 40 [(0, .ref (ad 0)), (1, .int v1), (2, .int v2), (3, .int v3), (4, .int v4), (5, .int v5), (6, .int v6), (7, .int v7), (8, .int v8)] []) ?_
    clear h; intro v1 v2 v3 v4 v5 v6 v7 v8 μ h
    have h40 : ∀ (v1 : Int32) (v2 : Int32) (v3 : Int32) (v4 : Int32) (v5 : Int32) (v6 : Int32) (v7 : Int32) (v8 : Int32) (μ : WS), (fun v1 v2 v3 v4 v5 v6 v7 v8 (μ : WS) => VV C 11 (HPW D ac ad (knX S) (ExX D ac ad S) (vS C)) (vQ C (QcW D ac ad (knX S) (qI Q)) 0 0 (inLay ad (knX S))) (μ, ()) 40 [(0, .ref (ad 0)), (1, .int v1), (2, .int v2), (3, .int v3), (4, .int v4), (5, .int v5), (6, .int v6), (7, .int v7), (8, .int v8)] []) v1 v2 v3 v4 v5 v6 v7 v8 μ → VV C 11 (HPW D ac ad (knX S) (ExX D ac ad S) (vS C)) (vQ C (QcW D ac ad (knX S) (qI Q)) 0 0 (inLay ad (knX S))) (μ, ()) 40 [(0, .ref (ad 0)), (1, .int v1), (2, .int v2), (3, .int v3), (4, .int v4), (5, .int v5), (6, .int v6), (7, .int v7), (8, .int v8)] [] := fun _ _ _ _ _ _ _ _ _ h => h
    unfold w_X0_origin_40b at h
    refine vv_iload hC dX0_origin_40 8 rfl ?_
    refine vv_aload_n hC dX0_origin_42 rfl 0 rfl ?_
    refine vv_getf hC hR hK fxX0_74_X0 0 (lx_0 S) rfl dX0_origin_43 ?_
    refine vv_callVi hC hR hK hRo hRm [] [.int v8] (met_J2_size_120 (vL C) D ac ad S hLay  μ _ h) gxX0_144 mf_J2_size_120 rfl (lx_120 S) rfl rfl rfl rfl dX0_origin_46 (fun r7 μ6 h => ?_)
    refine vv_icmp_ge (tgt := 165) hC dX0_origin_49 rfl (fun c8 => ?_) (fun c8 => ?_)
    · replace h := h.1 c8
      refine vv_iload_n hC dX0_origin_165 rfl 3 rfl ?_
      refine vv_iload hC dX0_origin_166 7 rfl ?_
      refine vv_iconst hC dX0_origin_168 xic_2 ?_
      refine vv_iload hC dX0_origin_169 6 rfl ?_
      refine vv_imul hC dX0_origin_171 ?_
      refine vv_icmp_ge (tgt := 182) hC dX0_origin_172 rfl (fun c9 => ?_) (fun c9 => ?_)
      · replace h := h.1 c9
        refine vv_iconst hC dX0_origin_182 xic_0 ?_
        refine vv_lv [0, 1, 2, 4, 5, 6, 7] rfl ?_
        exact L183 _ h19 _ _ _ _ _ _ _ _ _ h
      · replace h := h.2 c9
        refine vv_iconst hC dX0_origin_175 xic_1 ?_
        refine vv_iload hC dX0_origin_176 5 rfl ?_
        refine vv_ishl hC dX0_origin_178 ?_
        refine vv_goto (tgt := 183) hC dX0_origin_179 rfl ?_
        refine vv_lv [0, 1, 2, 4, 5, 6, 7] rfl ?_
        exact L183 _ h19 _ _ _ _ _ _ _ _ _ h
    · replace h := h.2 c8
      refine vv_aload_n hC dX0_origin_52 rfl 0 rfl ?_
      refine vv_getf hC hR hK fxX0_74_X0 0 (lx_0 S) rfl dX0_origin_53 ?_
      refine vv_iload hC dX0_origin_56 8 rfl ?_
      refine vv_callVr hC hR hK hRo hRm [.int v8] [] (met_J2_get_120 (vL C) D ac ad S hLay v8 μ6 _ h) gxX0_311 mf_J2_get_120 rfl (lx_120 S) rfl rfl rfl rfl dX0_origin_58 (fun r11 μ10 h => ?_)
      obtain ⟨hk366, h⟩ := h
      refine xx_castF hC hR hK hk366 q1499 dX0_origin_61 ?_
      refine vv_iload_n hC dX0_origin_64 rfl 2 rfl ?_
      obtain ⟨hk367, h⟩ := h
      refine xx_callF hC hR hK hRo hRm [.int v2] [] (met_X11_isKnown (vL C) D ac ad S hLay r11 v2 μ10 _ h) q1521 q1522 ⟨q1526, q1524, q1527, q1525⟩ q139 q1528 mf_X11_isKnown rfl hk367 rfl rfl dX0_origin_65 (fun r13 μ12 h => ?_)
      refine vv_if_eq (tgt := 159) hC dX0_origin_68 rfl (fun c14 => ?_) (fun c14 => ?_)
      · replace h := h.1 c14
        exact L159 _ h19 _ h40 _ _ _ _ _ _ _ _ _ h
      · replace h := h.2 c14
        refine vv_aload_n hC dX0_origin_71 rfl 0 rfl ?_
        refine vv_getf hC hR hK fxX0_74_X0 0 (lx_0 S) rfl dX0_origin_72 ?_
        refine vv_iload hC dX0_origin_75 8 rfl ?_
        refine vv_callVr hC hR hK hRo hRm [.int v8] [] (met_J2_get_120 (vL C) D ac ad S hLay v8 μ12 _ h) gxX0_311 mf_J2_get_120 rfl (lx_120 S) rfl rfl rfl rfl dX0_origin_77 (fun r16 μ15 h => ?_)
        obtain ⟨hk368, h⟩ := h
        refine xx_inst0 hC hR hK hk368 q325 dX0_origin_80 ?_
        refine vv_if_ne (tgt := 89) hC dX0_origin_83 rfl (fun c18 => ?_) (fun c18 => ?_)
        · replace h := h.1 c18
          refine vv_aload_n hC dX0_origin_89 rfl 0 rfl ?_
          refine vv_getf hC hR hK fxX0_74_X0 0 (lx_0 S) rfl dX0_origin_90 ?_
          refine vv_iload hC dX0_origin_93 8 rfl ?_
          refine vv_callVr hC hR hK hRo hRm [.int v8] [] (met_J2_get_120 (vL C) D ac ad S hLay v8 μ15 _ h) gxX0_311 mf_J2_get_120 rfl (lx_120 S) rfl rfl rfl rfl dX0_origin_95 (fun r20 μ19 h => ?_)
          obtain ⟨hk369, h⟩ := h
          refine vv_castS hC hR hK (kx_fact hk369) rfl q325 dX0_origin_98 ?_
          refine vv_astore (lv' := [(9, .ref (ad r20)), (0, .ref (ad 0)), (1, .int v1), (2, .int v2), (3, .int v3), (4, .int v4), (5, .int v5), (6, .int v6), (7, .int v7), (8, .int v8)]) hC dX0_origin_101 (by decide) rfl ?_
          refine vv_aload hC dX0_origin_103 0 rfl ?_
          obtain ⟨hk370, h⟩ := h
          refine vv_getf hC hR hK fxX0_362_X12 r20 (kx_fact hk370) rfl dX0_origin_105 ?_
          refine vv_if_eq (tgt := 126) hC dX0_origin_108 rfl (fun c21 => ?_) (fun c21 => ?_)
          · replace h := h.1 c21
            refine vv_aload hC dX0_origin_126 0 rfl ?_
            obtain ⟨hk371, h⟩ := h
            refine vv_getf hC hR hK fxX0_327_X12 r20 (kx_fact hk371) rfl dX0_origin_128 ?_
            refine vv_lv [1, 2, 3, 4, 5, 6, 7, 8, 9] rfl ?_
            exact L131 _ h19 _ h40 _ _ _ _ _ _ _ _ _ _ h
          · replace h := h.2 c21
            refine vv_aload_n hC dX0_origin_111 rfl 1 rfl ?_
            refine vv_getf hC hR hK fxX0_20_X0 0 (lx_0 S) rfl dX0_origin_112 ?_
            refine vv_aload hC dX0_origin_115 0 rfl ?_
            obtain ⟨hk372, h⟩ := h
            refine vv_getf hC hR hK fxX0_327_X12 r20 (kx_fact hk372) rfl dX0_origin_117 ?_
            refine vv_callVi hC hR hK hRo hRm [.int (μ19.1 r20 2)] [] (met_X1_turn (vL C) D ac ad S hLay (μ19.1 r20 2) μ19 _ h) gxX0_195 mf_X1_turn rfl (lx_104 S) rfl rfl rfl rfl dX0_origin_120 (fun r23 μ22 h => ?_)
            refine vv_goto (tgt := 131) hC dX0_origin_123 rfl ?_
            refine vv_lv [1, 2, 3, 4, 5, 6, 7, 8, 9] rfl ?_
            exact L131 _ h19 _ h40 _ _ _ _ _ _ _ _ _ _ h
        · replace h := h.2 c18
          refine vv_goto (tgt := 159) hC dX0_origin_86 rfl ?_
          exact L159 _ h19 _ h40 _ _ _ _ _ _ _ _ _ h
  have L19 : ∀ (v1 : Int32) (v2 : Int32) (v3 : Int32) (v4 : Int32) (v5 : Int32) (μ : WS), w_X0_origin_19 S  v1 v2 v3 v4 v5 μ Q → VV C 11 (HPW D ac ad (knX S) (ExX D ac ad S) (vS C)) (vQ C (QcW D ac ad (knX S) (qI Q)) 0 0 (inLay ad (knX S))) (μ, ()) 19 [(0, .ref (ad 0)), (1, .int v1), (2, .int v2), (3, .int v3), (4, .int v4), (5, .int v5)] [] := by
    intro  v1 v2 v3 v4 v5 μ h
    refine h (fun v1 v2 v3 v4 v5 μ => VV C 11 (HPW D ac ad (knX S) (ExX D ac ad S) (vS C)) (vQ C (QcW D ac ad (knX S) (qI Q)) 0 0 (inLay ad (knX S))) (μ, ()) 19 [(0, .ref (ad 0)), (1, .int v1), (2, .int v2), (3, .int v3), (4, .int v4), (5, .int v5)] []) ?_
    clear h; intro v1 v2 v3 v4 v5 μ h
    have h19 : ∀ (v1 : Int32) (v2 : Int32) (v3 : Int32) (v4 : Int32) (v5 : Int32) (μ : WS), (fun v1 v2 v3 v4 v5 (μ : WS) => VV C 11 (HPW D ac ad (knX S) (ExX D ac ad S) (vS C)) (vQ C (QcW D ac ad (knX S) (qI Q)) 0 0 (inLay ad (knX S))) (μ, ()) 19 [(0, .ref (ad 0)), (1, .int v1), (2, .int v2), (3, .int v3), (4, .int v4), (5, .int v5)] []) v1 v2 v3 v4 v5 μ → VV C 11 (HPW D ac ad (knX S) (ExX D ac ad S) (vS C)) (vQ C (QcW D ac ad (knX S) (qI Q)) 0 0 (inLay ad (knX S))) (μ, ()) 19 [(0, .ref (ad 0)), (1, .int v1), (2, .int v2), (3, .int v3), (4, .int v4), (5, .int v5)] [] := fun _ _ _ _ _ _ h => h
    unfold w_X0_origin_19b at h
    refine vv_iload hC dX0_origin_19 5 rfl ?_
    refine vv_aload_n hC dX0_origin_21 rfl 0 rfl ?_
    refine vv_getf hC hR hK fxX0_20_X0 0 (lx_0 S) rfl dX0_origin_22 ?_
    refine vv_getf hC hR hK fxX0_147_X1 104 (lx_104 S) rfl dX0_origin_25 ?_
    refine vv_icmp_ge (tgt := 205) hC dX0_origin_28 rfl (fun c4 => ?_) (fun c4 => ?_)
    · replace h := h.1 c4
      refine vv_iload_n hC dX0_origin_205 rfl 1 rfl ?_
      refine vv_if_ne (tgt := 213) hC dX0_origin_206 rfl (fun c5 => ?_) (fun c5 => ?_)
      · replace h := h.1 c5
        refine vv_iload hC dX0_origin_213 4 rfl ?_
        exact vv_iret hC hM dX0_origin_215 h
      · replace h := h.2 c5
        refine vv_iload_n hC dX0_origin_209 rfl 3 rfl ?_
        refine vv_goto (tgt := 215) hC dX0_origin_210 rfl ?_
        exact vv_iret hC hM dX0_origin_215 h
    · replace h := h.2 c4
      refine vv_iconst hC dX0_origin_31 xic_0 ?_
      refine vv_istore (lv' := [(6, .int 0), (0, .ref (ad 0)), (1, .int v1), (2, .int v2), (3, .int v3), (4, .int v4), (5, .int v5)]) hC dX0_origin_32 (by decide) rfl ?_
      refine vv_iconst hC dX0_origin_34 xic_0 ?_
      refine vv_istore (lv' := [(7, .int 0), (6, .int 0), (0, .ref (ad 0)), (1, .int v1), (2, .int v2), (3, .int v3), (4, .int v4), (5, .int v5)]) hC dX0_origin_35 (by decide) rfl ?_
      refine vv_iconst hC dX0_origin_37 xic_0 ?_
      refine vv_istore (lv' := [(8, .int 0), (7, .int 0), (6, .int 0), (0, .ref (ad 0)), (1, .int v1), (2, .int v2), (3, .int v3), (4, .int v4), (5, .int v5)]) hC dX0_origin_38 (by decide) rfl ?_
      refine vv_lv [3, 4, 5, 6, 7, 8, 2, 1, 0] rfl ?_
      exact L40 _ h19 _ _ _ _ _ _ _ _ _ h
  unfold w_X0_origin at h
  refine vv_iload_n hC dX0_origin_0 rfl 1 rfl ?_
  refine vv_iconst hC dX0_origin_1 xic_0 ?_
  refine vv_iconst hC dX0_origin_2 xic_1 ?_
  refine vv_callSi hC hR hK hRo hRm [.int v1, .int 0, .int 1] [] (met_X0_isIn (vL C) D ac ad S hLay v1 0 1 μ _ h) gxX0_150 mf_X0_isIn rfl rfl rfl dX0_origin_3 (fun r2 μ1 h => ?_)
  refine vv_if_ne (tgt := 11) hC dX0_origin_6 rfl (fun c3 => ?_) (fun c3 => ?_)
  · replace h := h.1 c3
    refine vv_iconst hC dX0_origin_11 xic_0 ?_
    refine vv_istore_n (lv' := [(3, .int 0), (0, .ref (ad 0)), (1, .int v1), (2, .int v2)]) hC dX0_origin_12 rfl (by decide) rfl ?_
    refine vv_iconst hC dX0_origin_13 xic_0 ?_
    refine vv_istore (lv' := [(4, .int 0), (3, .int 0), (0, .ref (ad 0)), (1, .int v1), (2, .int v2)]) hC dX0_origin_14 (by decide) rfl ?_
    refine vv_iconst hC dX0_origin_16 xic_0 ?_
    refine vv_istore (lv' := [(5, .int 0), (4, .int 0), (3, .int 0), (0, .ref (ad 0)), (1, .int v1), (2, .int v2)]) hC dX0_origin_17 (by decide) rfl ?_
    refine vv_lv [3, 4, 5, 2, 1, 0] rfl ?_
    exact L19  _ _ _ _ _ _ h
  · replace h := h.2 c3
    refine vv_iconst hC dX0_origin_9 xic_m1 ?_
    exact vv_iret hC hM dX0_origin_10 h
def w_X0_falses_90 (S : XS) (P9 : Int32 → Int32 → Int32 → WS → Prop) (v1 : Int32) (v2 : Int32) (v3 : Int32) (μ : WS) (Q : Int32 → WS → Prop) : Prop := P9 v1 v2 (v3 + 1) μ
def w_X0_falses_87 (S : XS) (P9 : Int32 → Int32 → Int32 → WS → Prop) (v1 : Int32) (v2 : Int32) (v3 : Int32) (μ : WS) (Q : Int32 → WS → Prop) : Prop := w_X0_falses_90 S P9 v1 (v2 + 1) v3 μ Q
def w_X0_falses_9b (S : XS) (P9 : Int32 → Int32 → Int32 → WS → Prop) (v1 : Int32) (v2 : Int32) (v3 : Int32) (μ : WS) (Q : Int32 → WS → Prop) : Prop := (w_J2_size_120 S μ (fun r3 μ2 => ((r3 ≤ v3) → Q v2 μ2) ∧ ((¬ r3 ≤ v3) → (w_J2_get_120 S v3 μ2 (fun r6 μ5 => ((isFactA S r6) ∧ ((isFactA S r6) ∧ (w_X11_isKnown S r6 v1 μ5 (fun r8 μ7 => ((r8 = 0) → w_X0_falses_90 S P9 v1 v2 v3 μ7 Q) ∧ ((¬ r8 = 0) → (w_J2_get_120 S v3 μ7 (fun r11 μ10 => ((isFactA S r11) ∧ (((if S.2.1 r11 = 1 then (1 : Int32) else 0) = 0) → w_X0_falses_90 S P9 v1 v2 v3 μ10 Q) ∧ ((¬ (if S.2.1 r11 = 1 then (1 : Int32) else 0) = 0) → (w_J2_get_120 S v3 μ10 (fun r15 μ14 => ((isFactR S 1 r15) ∧ ((isFactR S 1 r15) ∧ (w_X13_isFalse S r15 μ14 (fun r17 μ16 => ((¬ r17 = 0) → ((8 ≤ μ16.1 0 16) → w_X0_falses_87 S P9 v1 v2 v3 μ16 Q) ∧ ((¬ 8 ≤ μ16.1 0 16) → (w_X0_put S v3 μ16 (fun μ20 => w_X0_falses_87 S P9 v1 v2 v3 μ20 Q)))) ∧ ((r17 = 0) → w_X0_falses_90 S P9 v1 v2 v3 μ16 Q)))))))))))))))))))))
def w_X0_falses_9 (S : XS) (v1 : Int32) (v2 : Int32) (v3 : Int32) (μ : WS) (Q : Int32 → WS → Prop) : Prop := ∀ P9 : Int32 → Int32 → Int32 → WS → Prop, (∀ (v1 : Int32) (v2 : Int32) (v3 : Int32) (μ : WS), w_X0_falses_9b S  P9 v1 v2 v3 μ Q → P9 v1 v2 v3 μ) → P9 v1 v2 v3 μ
def w_X0_falses (S : XS) (v1 : Int32) (μ : WS) (Q : Int32 → WS → Prop) : Prop := (∀ μ1 : WS, μ1 = wset μ 0 16 0 → w_X0_falses_9 S v1 0 0 μ1 Q)
abbrev rm_X0_falses : Room := { frames := 3, cells := 0, slots := 0, locals := 64 }
theorem mf_X0_falses : MFact yX0_falses 1 rm_X0_falses := ⟨by decide +kernel, rfl, rfl⟩
set_option maxHeartbeats 4000000 in
theorem met_X0_falses (l : Launch) (D : va_G) (ac : Nat → ClassId) (ad : Nat → Nat) (S : XS) (hLay : LayOk ad (knX S)) (v1 : Int32) (μ : WS) (Q : Int32 → WS → Prop) (h : w_X0_falses S v1 μ Q) : CMet l yX0_falses cX0_falses 4 (some .int) rm_X0_falses D ac ad (knX S) (ExX D ac ad S) [.ref (ad 0), .int v1] μ (qI Q) := by
  refine vv_met (lv := [(0, .ref (ad 0)), (1, .int v1)]) (by decide) hLay exX_ok (Nat.le_of_ble_eq_true rfl) rfl ⟨rfl, rfl⟩ (fun C hC hK hRm hLl hR hM => ?_)
  subst hLl
  have hRo : RoomOk (HPW D ac ad (knX S) (ExX D ac ad S) (vS C)) (vR C) := HPW.room
  have L90 : ∀ (P9 : Int32 → Int32 → Int32 → WS → Prop) (h9 : ∀ (v1 : Int32) (v2 : Int32) (v3 : Int32) (μ : WS), P9 v1 v2 v3 μ → VV C 4 (HPW D ac ad (knX S) (ExX D ac ad S) (vS C)) (vQ C (QcW D ac ad (knX S) (qI Q)) 0 0 (inLay ad (knX S))) (μ, ()) 9 [(0, .ref (ad 0)), (1, .int v1), (2, .int v2), (3, .int v3)] []) (v1 : Int32) (v2 : Int32) (v3 : Int32) (μ : WS), w_X0_falses_90 S P9 v1 v2 v3 μ Q → VV C 4 (HPW D ac ad (knX S) (ExX D ac ad S) (vS C)) (vQ C (QcW D ac ad (knX S) (qI Q)) 0 0 (inLay ad (knX S))) (μ, ()) 90 [(0, .ref (ad 0)), (1, .int v1), (2, .int v2), (3, .int v3)] [] := by
    intro P9 h9 v1 v2 v3 μ h
    unfold w_X0_falses_90 at h
    refine vv_iinc (pl := 3) (v := v3 + 1) (lv' := [(3, .int (v3 + 1)), (0, .ref (ad 0)), (1, .int v1), (2, .int v2)]) hC dX0_falses_90 rfl rfl (by decide) rfl ?_
    refine vv_goto (tgt := 9) hC dX0_falses_93 rfl ?_
    refine vv_lv [1, 2, 3, 0] rfl ?_
    exact h9 _ _ _ _ h
  have L87 : ∀ (P9 : Int32 → Int32 → Int32 → WS → Prop) (h9 : ∀ (v1 : Int32) (v2 : Int32) (v3 : Int32) (μ : WS), P9 v1 v2 v3 μ → VV C 4 (HPW D ac ad (knX S) (ExX D ac ad S) (vS C)) (vQ C (QcW D ac ad (knX S) (qI Q)) 0 0 (inLay ad (knX S))) (μ, ()) 9 [(0, .ref (ad 0)), (1, .int v1), (2, .int v2), (3, .int v3)] []) (v1 : Int32) (v2 : Int32) (v3 : Int32) (μ : WS), w_X0_falses_87 S P9 v1 v2 v3 μ Q → VV C 4 (HPW D ac ad (knX S) (ExX D ac ad S) (vS C)) (vQ C (QcW D ac ad (knX S) (qI Q)) 0 0 (inLay ad (knX S))) (μ, ()) 87 [(0, .ref (ad 0)), (1, .int v1), (2, .int v2), (3, .int v3)] [] := by
    intro P9 h9 v1 v2 v3 μ h
    unfold w_X0_falses_87 at h
    refine vv_iinc (pl := 2) (v := v2 + 1) (lv' := [(2, .int (v2 + 1)), (0, .ref (ad 0)), (1, .int v1), (3, .int v3)]) hC dX0_falses_87 rfl rfl (by decide) rfl ?_
    refine vv_lv [1, 2, 0, 3] rfl ?_
    exact L90 _ h9 _ _ _ _ h
  have L9 : ∀ (v1 : Int32) (v2 : Int32) (v3 : Int32) (μ : WS), w_X0_falses_9 S  v1 v2 v3 μ Q → VV C 4 (HPW D ac ad (knX S) (ExX D ac ad S) (vS C)) (vQ C (QcW D ac ad (knX S) (qI Q)) 0 0 (inLay ad (knX S))) (μ, ()) 9 [(0, .ref (ad 0)), (1, .int v1), (2, .int v2), (3, .int v3)] [] := by
    intro  v1 v2 v3 μ h
    refine h (fun v1 v2 v3 μ => VV C 4 (HPW D ac ad (knX S) (ExX D ac ad S) (vS C)) (vQ C (QcW D ac ad (knX S) (qI Q)) 0 0 (inLay ad (knX S))) (μ, ()) 9 [(0, .ref (ad 0)), (1, .int v1), (2, .int v2), (3, .int v3)] []) ?_
    clear h; intro v1 v2 v3 μ h
    have h9 : ∀ (v1 : Int32) (v2 : Int32) (v3 : Int32) (μ : WS), (fun v1 v2 v3 (μ : WS) => VV C 4 (HPW D ac ad (knX S) (ExX D ac ad S) (vS C)) (vQ C (QcW D ac ad (knX S) (qI Q)) 0 0 (inLay ad (knX S))) (μ, ()) 9 [(0, .ref (ad 0)), (1, .int v1), (2, .int v2), (3, .int v3)] []) v1 v2 v3 μ → VV C 4 (HPW D ac ad (knX S) (ExX D ac ad S) (vS C)) (vQ C (QcW D ac ad (knX S) (qI Q)) 0 0 (inLay ad (knX S))) (μ, ()) 9 [(0, .ref (ad 0)), (1, .int v1), (2, .int v2), (3, .int v3)] [] := fun _ _ _ _ h => h
    unfold w_X0_falses_9b at h
    refine vv_iload_n hC dX0_falses_9 rfl 3 rfl ?_
    refine vv_aload_n hC dX0_falses_10 rfl 0 rfl ?_
    refine vv_getf hC hR hK fxX0_74_X0 0 (lx_0 S) rfl dX0_falses_11 ?_
    refine vv_callVi hC hR hK hRo hRm [] [.int v3] (met_J2_size_120 (vL C) D ac ad S hLay  μ _ h) gxX0_144 mf_J2_size_120 rfl (lx_120 S) rfl rfl rfl rfl dX0_falses_14 (fun r3 μ2 h => ?_)
    refine vv_icmp_ge (tgt := 96) hC dX0_falses_17 rfl (fun c4 => ?_) (fun c4 => ?_)
    · replace h := h.1 c4
      refine vv_iload_n hC dX0_falses_96 rfl 2 rfl ?_
      exact vv_iret hC hM dX0_falses_97 h
    · replace h := h.2 c4
      refine vv_aload_n hC dX0_falses_20 rfl 0 rfl ?_
      refine vv_getf hC hR hK fxX0_74_X0 0 (lx_0 S) rfl dX0_falses_21 ?_
      refine vv_iload_n hC dX0_falses_24 rfl 3 rfl ?_
      refine vv_callVr hC hR hK hRo hRm [.int v3] [] (met_J2_get_120 (vL C) D ac ad S hLay v3 μ2 _ h) gxX0_311 mf_J2_get_120 rfl (lx_120 S) rfl rfl rfl rfl dX0_falses_25 (fun r6 μ5 h => ?_)
      obtain ⟨hk373, h⟩ := h
      refine xx_castF hC hR hK hk373 q1499 dX0_falses_28 ?_
      refine vv_iload_n hC dX0_falses_31 rfl 1 rfl ?_
      obtain ⟨hk374, h⟩ := h
      refine xx_callF hC hR hK hRo hRm [.int v1] [] (met_X11_isKnown (vL C) D ac ad S hLay r6 v1 μ5 _ h) q1521 q1522 ⟨q1526, q1524, q1527, q1525⟩ q139 q1528 mf_X11_isKnown rfl hk374 rfl rfl dX0_falses_32 (fun r8 μ7 h => ?_)
      refine vv_if_eq (tgt := 90) hC dX0_falses_35 rfl (fun c9 => ?_) (fun c9 => ?_)
      · replace h := h.1 c9
        exact L90 _ h9 _ _ _ _ h
      · replace h := h.2 c9
        refine vv_aload_n hC dX0_falses_38 rfl 0 rfl ?_
        refine vv_getf hC hR hK fxX0_74_X0 0 (lx_0 S) rfl dX0_falses_39 ?_
        refine vv_iload_n hC dX0_falses_42 rfl 3 rfl ?_
        refine vv_callVr hC hR hK hRo hRm [.int v3] [] (met_J2_get_120 (vL C) D ac ad S hLay v3 μ7 _ h) gxX0_311 mf_J2_get_120 rfl (lx_120 S) rfl rfl rfl rfl dX0_falses_43 (fun r11 μ10 h => ?_)
        obtain ⟨hk375, h⟩ := h
        refine xx_inst1 hC hR hK hk375 q1423 dX0_falses_46 ?_
        refine vv_if_eq (tgt := 90) hC dX0_falses_49 rfl (fun c13 => ?_) (fun c13 => ?_)
        · replace h := h.1 c13
          exact L90 _ h9 _ _ _ _ h
        · replace h := h.2 c13
          refine vv_aload_n hC dX0_falses_52 rfl 0 rfl ?_
          refine vv_getf hC hR hK fxX0_74_X0 0 (lx_0 S) rfl dX0_falses_53 ?_
          refine vv_iload_n hC dX0_falses_56 rfl 3 rfl ?_
          refine vv_callVr hC hR hK hRo hRm [.int v3] [] (met_J2_get_120 (vL C) D ac ad S hLay v3 μ10 _ h) gxX0_311 mf_J2_get_120 rfl (lx_120 S) rfl rfl rfl rfl dX0_falses_57 (fun r15 μ14 h => ?_)
          obtain ⟨hk376, h⟩ := h
          refine vv_castS hC hR hK (kx_fact hk376) rfl q1423 dX0_falses_60 ?_
          refine vv_aload_n hC dX0_falses_63 rfl 0 rfl ?_
          obtain ⟨hk377, h⟩ := h
          refine vv_callVi hC hR hK hRo hRm [.ref (ad 0)] [] (met_X13_isFalse (vL C) D ac ad S hLay r15 μ14 _ h) gxX0_366 mf_X13_isFalse rfl (kx_fact hk377) rfl rfl rfl rfl dX0_falses_64 (fun r17 μ16 h => ?_)
          refine vv_if_ne (tgt := 73) hC dX0_falses_67 rfl (fun c18 => ?_) (fun c18 => ?_)
          · replace h := h.1 c18
            refine vv_aload_n hC dX0_falses_73 rfl 0 rfl ?_
            refine vv_getf hC hR hK fxX0_121_X0 0 (lx_0 S) rfl dX0_falses_74 ?_
            refine vv_bipush hC dX0_falses_77 xbp_8 ?_
            refine vv_icmp_ge (tgt := 87) hC dX0_falses_79 rfl (fun c19 => ?_) (fun c19 => ?_)
            · replace h := h.1 c19
              exact L87 _ h9 _ _ _ _ h
            · replace h := h.2 c19
              refine vv_aload_n hC dX0_falses_82 rfl 0 rfl ?_
              refine vv_iload_n hC dX0_falses_83 rfl 3 rfl ?_
              refine vv_callVv hC hR hK hRo hRm [.int v3] [] (met_X0_put (vL C) D ac ad S hLay v3 μ16 _ h) gxX0_267 mf_X0_put rfl (lx_0 S) rfl rfl rfl rfl dX0_falses_84 (fun μ20 h => ?_)
              exact L87 _ h9 _ _ _ _ h
          · replace h := h.2 c18
            refine vv_goto (tgt := 90) hC dX0_falses_70 rfl ?_
            exact L90 _ h9 _ _ _ _ h
  unfold w_X0_falses at h
  refine vv_aload_n hC dX0_falses_0 rfl 0 rfl ?_
  refine vv_iconst hC dX0_falses_1 xic_0 ?_
  refine vv_puti hC hR hK fxX0_121_X0 0 (lx_0 S) rfl rfl rfl dX0_falses_2 ?_
  refine vv_st (fun y e => ?_)
  obtain ⟨μ1, _⟩ := y
  have eμ1 := congrArg Prod.fst e
  clear e
  replace h := h μ1 eμ1
  refine vv_iconst hC dX0_falses_5 xic_0 ?_
  refine vv_istore_n (lv' := [(2, .int 0), (0, .ref (ad 0)), (1, .int v1)]) hC dX0_falses_6 rfl (by decide) rfl ?_
  refine vv_iconst hC dX0_falses_7 xic_0 ?_
  refine vv_istore_n (lv' := [(3, .int 0), (2, .int 0), (0, .ref (ad 0)), (1, .int v1)]) hC dX0_falses_8 rfl (by decide) rfl ?_
  refine vv_lv [2, 3, 1, 0] rfl ?_
  exact L9  _ _ _ _ h
def w_X0_span_142 (S : XS) (P30 : Int32 → Int32 → Int32 → Int32 → Int32 → Int32 → WS → Prop) (v1 : Int32) (v2 : Int32) (v3 : Int32) (v4 : Int32) (v5 : Int32) (v6 : Int32) (μ : WS) (Q : Int32 → WS → Prop) : Prop := P30 v1 v2 v3 v4 v5 (v6 + 1) μ
def w_X0_span_30b (S : XS) (P30 : Int32 → Int32 → Int32 → Int32 → Int32 → Int32 → WS → Prop) (v1 : Int32) (v2 : Int32) (v3 : Int32) (v4 : Int32) (v5 : Int32) (v6 : Int32) (μ : WS) (Q : Int32 → WS → Prop) : Prop := (w_J2_size_120 S μ (fun r8 μ7 => ((r8 ≤ v6) → (∀ x10 : Int32, x10 = (if 0 < (v5 - v4) + 1 then (v5 - v4) + 1 else 0) → ((¬ v2 = 2) → ((¬ x10 = 0) → ((¬ v2 = 0) → Q v5 μ7) ∧ ((v2 = 0) → Q v4 μ7)) ∧ ((x10 = 0) → Q (-1) μ7)) ∧ ((v2 = 2) → Q x10 μ7))) ∧ ((¬ r8 ≤ v6) → (w_J2_get_120 S v6 μ7 (fun r15 μ14 => ((isFactA S r15) ∧ ((isFactA S r15) ∧ (w_X11_isKnown S r15 v3 μ14 (fun r17 μ16 => ((r17 = 0) → w_X0_span_142 S P30 v1 v2 v3 v4 v5 v6 μ16 Q) ∧ ((¬ r17 = 0) → (w_J2_get_120 S v6 μ16 (fun r20 μ19 => ((isFactA S r20) ∧ ((¬ (if S.2.1 r20 = 2 then (1 : Int32) else 0) = 0) → (w_J2_get_120 S v6 μ19 (fun r24 μ23 => ((isFactR S 2 r24) ∧ ((isFactR S 2 r24) ∧ ((μ23.1 r24 2 = v1) → ((isFactR S 2 r24) ∧ ((μ23.1 r24 4 = 0) → ((isFactR S 2 r24) ∧ (∀ x27 : Int32, x27 = (if μ23.1 r24 3 < v5 then μ23.1 r24 3 else v5) → w_X0_span_142 S P30 v1 v2 v3 v4 x27 v6 μ23 Q))) ∧ ((¬ μ23.1 r24 4 = 0) → ((isFactR S 2 r24) ∧ (∀ x28 : Int32, x28 = (if v4 < (μ23.1 r24 3) + 1 then (μ23.1 r24 3) + 1 else v4) → w_X0_span_142 S P30 v1 v2 v3 x28 v5 v6 μ23 Q))))) ∧ ((¬ μ23.1 r24 2 = v1) → w_X0_span_142 S P30 v1 v2 v3 v4 v5 v6 μ23 Q)))))) ∧ (((if S.2.1 r20 = 2 then (1 : Int32) else 0) = 0) → w_X0_span_142 S P30 v1 v2 v3 v4 v5 v6 μ19 Q))))))))))))))
def w_X0_span_30 (S : XS) (v1 : Int32) (v2 : Int32) (v3 : Int32) (v4 : Int32) (v5 : Int32) (v6 : Int32) (μ : WS) (Q : Int32 → WS → Prop) : Prop := ∀ P30 : Int32 → Int32 → Int32 → Int32 → Int32 → Int32 → WS → Prop, (∀ (v1 : Int32) (v2 : Int32) (v3 : Int32) (v4 : Int32) (v5 : Int32) (v6 : Int32) (μ : WS), w_X0_span_30b S  P30 v1 v2 v3 v4 v5 v6 μ Q → P30 v1 v2 v3 v4 v5 v6 μ) → P30 v1 v2 v3 v4 v5 v6 μ
def w_X0_span (S : XS) (v1 : Int32) (v2 : Int32) (v3 : Int32) (μ : WS) (Q : Int32 → WS → Prop) : Prop := (w_X0_isMark S v1 μ (fun r2 μ1 => ((r2 = 0) → Q (-1) μ1) ∧ ((¬ r2 = 0) → (w_X0_isIn S v2 0 2 μ1 (fun r5 μ4 => ((¬ r5 = 0) → w_X0_span_30 S v1 v2 v3 0 999 0 μ4 Q) ∧ ((r5 = 0) → Q (-1) μ4))))))
abbrev rm_X0_span : Room := { frames := 3, cells := 0, slots := 0, locals := 64 }
theorem mf_X0_span : MFact yX0_span 3 rm_X0_span := ⟨by decide +kernel, rfl, rfl⟩
set_option maxHeartbeats 4000000 in
theorem met_X0_span (l : Launch) (D : va_G) (ac : Nat → ClassId) (ad : Nat → Nat) (S : XS) (hLay : LayOk ad (knX S)) (v1 : Int32) (v2 : Int32) (v3 : Int32) (μ : WS) (Q : Int32 → WS → Prop) (h : w_X0_span S v1 v2 v3 μ Q) : CMet l yX0_span cX0_span 8 (some .int) rm_X0_span D ac ad (knX S) (ExX D ac ad S) [.ref (ad 0), .int v1, .int v2, .int v3] μ (qI Q) := by
  refine vv_met (lv := [(0, .ref (ad 0)), (1, .int v1), (2, .int v2), (3, .int v3)]) (by decide) hLay exX_ok (Nat.le_of_ble_eq_true rfl) rfl ⟨rfl, rfl⟩ (fun C hC hK hRm hLl hR hM => ?_)
  subst hLl
  have hRo : RoomOk (HPW D ac ad (knX S) (ExX D ac ad S) (vS C)) (vR C) := HPW.room
  have L142 : ∀ (P30 : Int32 → Int32 → Int32 → Int32 → Int32 → Int32 → WS → Prop) (h30 : ∀ (v1 : Int32) (v2 : Int32) (v3 : Int32) (v4 : Int32) (v5 : Int32) (v6 : Int32) (μ : WS), P30 v1 v2 v3 v4 v5 v6 μ → VV C 8 (HPW D ac ad (knX S) (ExX D ac ad S) (vS C)) (vQ C (QcW D ac ad (knX S) (qI Q)) 0 0 (inLay ad (knX S))) (μ, ()) 30 [(0, .ref (ad 0)), (1, .int v1), (2, .int v2), (3, .int v3), (4, .int v4), (5, .int v5), (6, .int v6)] []) (v1 : Int32) (v2 : Int32) (v3 : Int32) (v4 : Int32) (v5 : Int32) (v6 : Int32) (μ : WS), w_X0_span_142 S P30 v1 v2 v3 v4 v5 v6 μ Q → VV C 8 (HPW D ac ad (knX S) (ExX D ac ad S) (vS C)) (vQ C (QcW D ac ad (knX S) (qI Q)) 0 0 (inLay ad (knX S))) (μ, ()) 142 [(0, .ref (ad 0)), (1, .int v1), (2, .int v2), (3, .int v3), (4, .int v4), (5, .int v5), (6, .int v6)] [] := by
    intro P30 h30 v1 v2 v3 v4 v5 v6 μ h
    unfold w_X0_span_142 at h
    refine vv_iinc (pl := 6) (v := v6 + 1) (lv' := [(6, .int (v6 + 1)), (0, .ref (ad 0)), (1, .int v1), (2, .int v2), (3, .int v3), (4, .int v4), (5, .int v5)]) hC dX0_span_142 rfl rfl (by decide) rfl ?_
    refine vv_goto (tgt := 30) hC dX0_span_145 rfl ?_
    refine vv_lv [1, 2, 3, 4, 5, 6, 0] rfl ?_
    exact h30 _ _ _ _ _ _ _ h
  have L30 : ∀ (v1 : Int32) (v2 : Int32) (v3 : Int32) (v4 : Int32) (v5 : Int32) (v6 : Int32) (μ : WS), w_X0_span_30 S  v1 v2 v3 v4 v5 v6 μ Q → VV C 8 (HPW D ac ad (knX S) (ExX D ac ad S) (vS C)) (vQ C (QcW D ac ad (knX S) (qI Q)) 0 0 (inLay ad (knX S))) (μ, ()) 30 [(0, .ref (ad 0)), (1, .int v1), (2, .int v2), (3, .int v3), (4, .int v4), (5, .int v5), (6, .int v6)] [] := by
    intro  v1 v2 v3 v4 v5 v6 μ h
    refine h (fun v1 v2 v3 v4 v5 v6 μ => VV C 8 (HPW D ac ad (knX S) (ExX D ac ad S) (vS C)) (vQ C (QcW D ac ad (knX S) (qI Q)) 0 0 (inLay ad (knX S))) (μ, ()) 30 [(0, .ref (ad 0)), (1, .int v1), (2, .int v2), (3, .int v3), (4, .int v4), (5, .int v5), (6, .int v6)] []) ?_
    clear h; intro v1 v2 v3 v4 v5 v6 μ h
    have h30 : ∀ (v1 : Int32) (v2 : Int32) (v3 : Int32) (v4 : Int32) (v5 : Int32) (v6 : Int32) (μ : WS), (fun v1 v2 v3 v4 v5 v6 (μ : WS) => VV C 8 (HPW D ac ad (knX S) (ExX D ac ad S) (vS C)) (vQ C (QcW D ac ad (knX S) (qI Q)) 0 0 (inLay ad (knX S))) (μ, ()) 30 [(0, .ref (ad 0)), (1, .int v1), (2, .int v2), (3, .int v3), (4, .int v4), (5, .int v5), (6, .int v6)] []) v1 v2 v3 v4 v5 v6 μ → VV C 8 (HPW D ac ad (knX S) (ExX D ac ad S) (vS C)) (vQ C (QcW D ac ad (knX S) (qI Q)) 0 0 (inLay ad (knX S))) (μ, ()) 30 [(0, .ref (ad 0)), (1, .int v1), (2, .int v2), (3, .int v3), (4, .int v4), (5, .int v5), (6, .int v6)] [] := fun _ _ _ _ _ _ _ h => h
    unfold w_X0_span_30b at h
    refine vv_iload hC dX0_span_30 6 rfl ?_
    refine vv_aload_n hC dX0_span_32 rfl 0 rfl ?_
    refine vv_getf hC hR hK fxX0_74_X0 0 (lx_0 S) rfl dX0_span_33 ?_
    refine vv_callVi hC hR hK hRo hRm [] [.int v6] (met_J2_size_120 (vL C) D ac ad S hLay  μ _ h) gxX0_144 mf_J2_size_120 rfl (lx_120 S) rfl rfl rfl rfl dX0_span_36 (fun r8 μ7 h => ?_)
    refine vv_icmp_ge (tgt := 148) hC dX0_span_39 rfl (fun c9 => ?_) (fun c9 => ?_)
    · replace h := h.1 c9
      refine vv_iconst hC dX0_span_148 xic_0 ?_
      refine vv_iload hC dX0_span_149 5 rfl ?_
      refine vv_iload hC dX0_span_151 4 rfl ?_
      refine vv_isub hC dX0_span_153 ?_
      refine vv_iconst hC dX0_span_154 xic_1 ?_
      refine vv_iadd hC dX0_span_155 ?_
      refine vv_mmax hC hRo ⟨q1565, q554, q123, q555⟩ (by rw [hRm]; exact ⟨Nat.le_of_ble_eq_true rfl, Nat.le_of_ble_eq_true rfl⟩) dX0_span_156 ?_
      refine vv_topi (fun x10 ex10 => ?_)
      replace h := h x10 ex10
      refine vv_istore (lv' := [(6, .int x10), (0, .ref (ad 0)), (1, .int v1), (2, .int v2), (3, .int v3), (4, .int v4), (5, .int v5)]) hC dX0_span_159 (by decide) rfl ?_
      refine vv_iload_n hC dX0_span_161 rfl 3 rfl ?_
      refine vv_iconst hC dX0_span_162 xic_2 ?_
      refine vv_icmp_ne (tgt := 171) hC dX0_span_163 rfl (fun c11 => ?_) (fun c11 => ?_)
      · replace h := h.1 c11
        refine vv_iload hC dX0_span_171 0 rfl ?_
        refine vv_if_ne (tgt := 180) hC dX0_span_173 rfl (fun c12 => ?_) (fun c12 => ?_)
        · replace h := h.1 c12
          refine vv_iload_n hC dX0_span_180 rfl 3 rfl ?_
          refine vv_if_ne (tgt := 189) hC dX0_span_181 rfl (fun c13 => ?_) (fun c13 => ?_)
          · replace h := h.1 c13
            refine vv_iload hC dX0_span_189 6 rfl ?_
            exact vv_iret hC hM dX0_span_191 h
          · replace h := h.2 c13
            refine vv_iload hC dX0_span_184 5 rfl ?_
            refine vv_goto (tgt := 191) hC dX0_span_186 rfl ?_
            exact vv_iret hC hM dX0_span_191 h
        · replace h := h.2 c12
          refine vv_iconst hC dX0_span_176 xic_m1 ?_
          refine vv_goto (tgt := 191) hC dX0_span_177 rfl ?_
          exact vv_iret hC hM dX0_span_191 h
      · replace h := h.2 c11
        refine vv_iload hC dX0_span_166 0 rfl ?_
        refine vv_goto (tgt := 191) hC dX0_span_168 rfl ?_
        exact vv_iret hC hM dX0_span_191 h
    · replace h := h.2 c9
      refine vv_aload_n hC dX0_span_42 rfl 0 rfl ?_
      refine vv_getf hC hR hK fxX0_74_X0 0 (lx_0 S) rfl dX0_span_43 ?_
      refine vv_iload hC dX0_span_46 6 rfl ?_
      refine vv_callVr hC hR hK hRo hRm [.int v6] [] (met_J2_get_120 (vL C) D ac ad S hLay v6 μ7 _ h) gxX0_311 mf_J2_get_120 rfl (lx_120 S) rfl rfl rfl rfl dX0_span_48 (fun r15 μ14 h => ?_)
      obtain ⟨hk378, h⟩ := h
      refine xx_castF hC hR hK hk378 q1499 dX0_span_51 ?_
      refine vv_iload_n hC dX0_span_54 rfl 3 rfl ?_
      obtain ⟨hk379, h⟩ := h
      refine xx_callF hC hR hK hRo hRm [.int v3] [] (met_X11_isKnown (vL C) D ac ad S hLay r15 v3 μ14 _ h) q1521 q1522 ⟨q1526, q1524, q1527, q1525⟩ q139 q1528 mf_X11_isKnown rfl hk379 rfl rfl dX0_span_55 (fun r17 μ16 h => ?_)
      refine vv_if_eq (tgt := 142) hC dX0_span_58 rfl (fun c18 => ?_) (fun c18 => ?_)
      · replace h := h.1 c18
        exact L142 _ h30 _ _ _ _ _ _ _ h
      · replace h := h.2 c18
        refine vv_aload_n hC dX0_span_61 rfl 0 rfl ?_
        refine vv_getf hC hR hK fxX0_74_X0 0 (lx_0 S) rfl dX0_span_62 ?_
        refine vv_iload hC dX0_span_65 6 rfl ?_
        refine vv_callVr hC hR hK hRo hRm [.int v6] [] (met_J2_get_120 (vL C) D ac ad S hLay v6 μ16 _ h) gxX0_311 mf_J2_get_120 rfl (lx_120 S) rfl rfl rfl rfl dX0_span_67 (fun r20 μ19 h => ?_)
        obtain ⟨hk380, h⟩ := h
        refine xx_inst2 hC hR hK hk380 q1445 dX0_span_70 ?_
        refine vv_if_ne (tgt := 79) hC dX0_span_73 rfl (fun c22 => ?_) (fun c22 => ?_)
        · replace h := h.1 c22
          refine vv_aload_n hC dX0_span_79 rfl 0 rfl ?_
          refine vv_getf hC hR hK fxX0_74_X0 0 (lx_0 S) rfl dX0_span_80 ?_
          refine vv_iload hC dX0_span_83 6 rfl ?_
          refine vv_callVr hC hR hK hRo hRm [.int v6] [] (met_J2_get_120 (vL C) D ac ad S hLay v6 μ19 _ h) gxX0_311 mf_J2_get_120 rfl (lx_120 S) rfl rfl rfl rfl dX0_span_85 (fun r24 μ23 h => ?_)
          obtain ⟨hk381, h⟩ := h
          refine vv_castS hC hR hK (kx_fact hk381) rfl q1445 dX0_span_88 ?_
          refine vv_astore (lv' := [(7, .ref (ad r24)), (0, .ref (ad 0)), (1, .int v1), (2, .int v2), (3, .int v3), (4, .int v4), (5, .int v5), (6, .int v6)]) hC dX0_span_91 (by decide) rfl ?_
          refine vv_aload hC dX0_span_93 0 rfl ?_
          obtain ⟨hk382, h⟩ := h
          refine vv_getf hC hR hK fxX0_370_X14 r24 (kx_fact hk382) rfl dX0_span_95 ?_
          refine vv_iload_n hC dX0_span_98 rfl 2 rfl ?_
          refine vv_icmp_eq (tgt := 105) hC dX0_span_99 rfl (fun c25 => ?_) (fun c25 => ?_)
          · replace h := h.1 c25
            refine vv_aload hC dX0_span_105 0 rfl ?_
            obtain ⟨hk383, h⟩ := h
            refine vv_getf hC hR hK fxX0_373_X14 r24 (kx_fact hk383) rfl dX0_span_107 ?_
            refine vv_if_eq (tgt := 130) hC dX0_span_110 rfl (fun c26 => ?_) (fun c26 => ?_)
            · replace h := h.1 c26
              refine vv_iload hC dX0_span_130 6 rfl ?_
              refine vv_aload hC dX0_span_132 0 rfl ?_
              obtain ⟨hk384, h⟩ := h
              refine vv_getf hC hR hK fxX0_376_X14 r24 (kx_fact hk384) rfl dX0_span_134 ?_
              refine vv_mmin hC hRo ⟨q1382, q572, q123, q573⟩ (by rw [hRm]; exact ⟨Nat.le_of_ble_eq_true rfl, Nat.le_of_ble_eq_true rfl⟩) dX0_span_137 ?_
              refine vv_topi (fun x27 ex27 => ?_)
              replace h := h x27 ex27
              refine vv_istore (lv' := [(5, .int x27), (7, .ref (ad r24)), (0, .ref (ad 0)), (1, .int v1), (2, .int v2), (3, .int v3), (4, .int v4), (6, .int v6)]) hC dX0_span_140 (by decide) rfl ?_
              refine vv_lv [2, 3, 4, 5, 6, 0, 7] rfl ?_
              exact L142 _ h30 _ _ _ _ _ _ _ h
            · replace h := h.2 c26
              refine vv_iload hC dX0_span_113 5 rfl ?_
              refine vv_aload hC dX0_span_115 0 rfl ?_
              obtain ⟨hk385, h⟩ := h
              refine vv_getf hC hR hK fxX0_376_X14 r24 (kx_fact hk385) rfl dX0_span_117 ?_
              refine vv_iconst hC dX0_span_120 xic_1 ?_
              refine vv_iadd hC dX0_span_121 ?_
              refine vv_mmax hC hRo ⟨q1565, q554, q123, q555⟩ (by rw [hRm]; exact ⟨Nat.le_of_ble_eq_true rfl, Nat.le_of_ble_eq_true rfl⟩) dX0_span_122 ?_
              refine vv_topi (fun x28 ex28 => ?_)
              replace h := h x28 ex28
              refine vv_istore (lv' := [(4, .int x28), (7, .ref (ad r24)), (0, .ref (ad 0)), (1, .int v1), (2, .int v2), (3, .int v3), (5, .int v5), (6, .int v6)]) hC dX0_span_125 (by decide) rfl ?_
              refine vv_goto (tgt := 142) hC dX0_span_127 rfl ?_
              refine vv_lv [2, 3, 4, 5, 0, 6, 7] rfl ?_
              exact L142 _ h30 _ _ _ _ _ _ _ h
          · replace h := h.2 c25
            refine vv_goto (tgt := 142) hC dX0_span_102 rfl ?_
            refine vv_lv [1, 2, 3, 4, 5, 6, 7] rfl ?_
            exact L142 _ h30 _ _ _ _ _ _ _ h
        · replace h := h.2 c22
          refine vv_goto (tgt := 142) hC dX0_span_76 rfl ?_
          exact L142 _ h30 _ _ _ _ _ _ _ h
  unfold w_X0_span at h
  refine vv_aload_n hC dX0_span_0 rfl 0 rfl ?_
  refine vv_iload_n hC dX0_span_1 rfl 1 rfl ?_
  refine vv_callVi hC hR hK hRo hRm [.int v1] [] (met_X0_isMark (vL C) D ac ad S hLay v1 μ _ h) gxX0_229 mf_X0_isMark rfl (lx_0 S) rfl rfl rfl rfl dX0_span_2 (fun r2 μ1 h => ?_)
  refine vv_if_eq (tgt := 17) hC dX0_span_5 rfl (fun c3 => ?_) (fun c3 => ?_)
  · replace h := h.1 c3
    refine vv_iconst hC dX0_span_17 xic_m1 ?_
    exact vv_iret hC hM dX0_span_18 h
  · replace h := h.2 c3
    refine vv_iload_n hC dX0_span_8 rfl 2 rfl ?_
    refine vv_iconst hC dX0_span_9 xic_0 ?_
    refine vv_iconst hC dX0_span_10 xic_2 ?_
    refine vv_callSi hC hR hK hRo hRm [.int v2, .int 0, .int 2] [] (met_X0_isIn (vL C) D ac ad S hLay v2 0 2 μ1 _ h) gxX0_150 mf_X0_isIn rfl rfl rfl dX0_span_11 (fun r5 μ4 h => ?_)
    refine vv_if_ne (tgt := 19) hC dX0_span_14 rfl (fun c6 => ?_) (fun c6 => ?_)
    · replace h := h.1 c6
      refine vv_iconst hC dX0_span_19 xic_0 ?_
      refine vv_istore (lv' := [(4, .int 0), (0, .ref (ad 0)), (1, .int v1), (2, .int v2), (3, .int v3)]) hC dX0_span_20 (by decide) rfl ?_
      refine vv_sipush hC dX0_span_22 xsp_999 ?_
      refine vv_istore (lv' := [(5, .int 999), (4, .int 0), (0, .ref (ad 0)), (1, .int v1), (2, .int v2), (3, .int v3)]) hC dX0_span_25 (by decide) rfl ?_
      refine vv_iconst hC dX0_span_27 xic_0 ?_
      refine vv_istore (lv' := [(6, .int 0), (5, .int 999), (4, .int 0), (0, .ref (ad 0)), (1, .int v1), (2, .int v2), (3, .int v3)]) hC dX0_span_28 (by decide) rfl ?_
      refine vv_lv [3, 4, 5, 6, 2, 1, 0] rfl ?_
      exact L30  _ _ _ _ _ _ _ h
    · replace h := h.2 c6
      refine vv_iconst hC dX0_span_17 xic_m1 ?_
      exact vv_iret hC hM dX0_span_18 h
