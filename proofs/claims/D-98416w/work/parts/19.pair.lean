set_option maxRecDepth 100000
/-! Pair.of -/
def exPair (D : va_G) (ac : Nat → ClassId) (ad : Nat → Nat) (S : XS) (d a l0 r0 : Nat) (c0 : Int32) (L1 L2 : List (Int32 × Int32)) : Heap → Prop := fun H => t_OB a (D.1 9) 3 (D.2 9) H (pairV l0 r0 c0) ∧ nodeX D ac ad S d l0 L1 H ∧ nodeX D ac ad S d r0 L2 H
theorem exPair.ok {D : va_G} {ac : Nat → ClassId} {ad : Nat → Nat} {S : XS} {d a l0 r0 : Nat} {c0 : Int32} {L1 L2 : List (Int32 × Int32)} (h : outX ad S a) : ExOk ad (knX S) (exPair D ac ad S d a l0 r0 c0 L1 L2) := fun H H' hs ho hp => ⟨tob.ok h H H' hs ho hp.1, nodeX.ok H H' hs ho hp.2.1, nodeX.ok H H' hs ho hp.2.2⟩
theorem nic_0 : Int32.ofInt 0 = 0 := by decide
theorem nic_1 : Int32.ofInt 1 = 1 := by decide
theorem fxX9_13_X9 : FAcc RX9 13 9 3 1 (.object "SealCasts$Node") true := ⟨RX9, TX9, tyX9, rfl, by decide, in_X9, q983, tyX9_ok, nmX9, rfl, rfl⟩
theorem fxX9_16_X9 : FAcc RX9 16 9 3 2 .char true := ⟨RX9, TX9, tyX9, rfl, by decide, in_X9, q984, tyX9_ok, nmX9, rfl, rfl⟩
theorem fxX9_7_X9 : FAcc RX9 7 9 3 0 (.object "SealCasts$Node") true := ⟨RX9, TX9, tyX9, rfl, by decide, in_X9, q982, tyX9_ok, nmX9, rfl, rfl⟩
def w_X9_of (S : XS) (vl : Int32) (vr : Int32) (c0 : Int32) (μ : WS) (Q : Int32 → WS → Prop) : Prop := (c0 = 37 → ((¬ vr = 0) → (¬ vr = 0 ∧ Q (vl - vl / vr * vr) μ)) ∧ ((vr = 0) → Q 0 μ)) ∧ (c0 = 38 → ((vl = 0) → Q 0 μ) ∧ ((¬ vl = 0) → ((vr = 0) → Q 0 μ) ∧ ((¬ vr = 0) → Q 1 μ))) ∧ (c0 = 42 → Q (vl * vr) μ) ∧ (c0 = 43 → Q (vl + vr) μ) ∧ (c0 = 45 → Q (vl - vr) μ) ∧ (c0 = 47 → ((¬ vr = 0) → (¬ vr = 0 ∧ Q (vl / vr) μ)) ∧ ((vr = 0) → Q 0 μ)) ∧ (c0 = 60 → ((vr ≤ vl) → Q 0 μ) ∧ ((¬ vr ≤ vl) → Q 1 μ)) ∧ (c0 = 61 → ((¬ vl = vr) → Q 0 μ) ∧ ((vl = vr) → Q 1 μ)) ∧ (c0 = 62 → ((vl ≤ vr) → Q 0 μ) ∧ ((¬ vl ≤ vr) → Q 1 μ)) ∧ ((¬ c0 = 37) → (¬ c0 = 38) → (¬ c0 = 42) → (¬ c0 = 43) → (¬ c0 = 45) → (¬ c0 = 47) → (¬ c0 = 60) → (¬ c0 = 61) → (¬ c0 = 62) → ((¬ vl = 0) → Q 1 μ) ∧ ((vl = 0) → ((vr = 0) → Q 0 μ) ∧ ((¬ vr = 0) → Q 1 μ)))
set_option maxHeartbeats 4000000 in
theorem met_X9_of {l : Launch} {D : va_G} {ac : Nat → ClassId} {ad : Nat → Nat} {S : XS} (hLay : LayOk ad (knX S)) {dd a l0 r0 : Nat} {c0 : Int32} {L1 L2 : List (Int32 × Int32)} (ho : outX ad S a) (hl : NodeRow l D ac ad (knX S) dd l0 (nodeX D ac ad S dd l0 L1) (fun ask => evV ask L1)) (hr : NodeRow l D ac ad (knX S) dd r0 (nodeX D ac ad S dd r0 L2) (fun ask => evV ask L2)) (μ : WS) (Q : Int32 → WS → Prop) (h : w_X9_of S (evV (μ.1 132) L1) (evV (μ.1 132) L2) c0 μ Q) : CMet l yX9_of cX9_of 4 (some .int) { frames := dd + 1, cells := 0, slots := 0, locals := 30 * (dd + 1) } D ac ad (knX S) (exPair D ac ad S dd a l0 r0 c0 L1 L2) [.ref a, .ref (ad 132)] μ (qI Q) := by
  refine vv_met (lv := [(0, .ref a), (1, .ref (ad 132))]) (by decide) hLay (exPair.ok ho) (Nat.le_of_ble_eq_true rfl) rfl ⟨rfl, rfl⟩ (fun C hC hK hRm hLl hR hM => ?_)
  subst hLl
  have hRo : RoomOk (HPW D ac ad (knX S) (exPair D ac ad S dd a l0 r0 c0 L1 L2) (vS C)) (vR C) := HPW.room
  generalize evl : evV (μ.1 132) L1 = vl at h
  generalize evr : evV (μ.1 132) L2 = vr at h
  unfold w_X9_of at h
  refine vv_aload_n hC dX9_of_0 rfl 0 rfl ?_
  refine vv_getfE hC hK fxX9_7_X9 (a := a) (V := pairV l0 r0 c0) (fun x H locs c n hH => (hR.2.2.2 x H locs c n hH).1) rfl dX9_of_1 ?_
  refine vv_aload_n hC dX9_of_4 rfl 1 rfl ?_
  refine hl _ C _ _ _ μ () _ _ [] _ _ _ _ hC hR hK hRo rfl (fun x H locs c n hH => (hR.2.2.2 x H locs c n hH).2.1) (by rw [hRm]; exact Nat.le_refl _) (by rw [hRm]; exact Nat.le_refl _) q1219 (Nat.le_of_ble_eq_true rfl) dX9_of_5 ?_
  refine vv_eq (st := [.int (evV (μ.1 132) L1)]) (st' := [.int vl]) (by rw [evl]) ?_
  refine vv_istore_n (lv' := [(2, .int vl), (0, .ref a), (1, .ref (ad 132))]) hC dX9_of_10 rfl (by decide) rfl ?_
  refine vv_aload_n hC dX9_of_11 rfl 1 rfl ?_
  refine vv_getfE hC hK fxX9_13_X9 (a := a) (V := pairV l0 r0 c0) (fun x H locs c n hH => (hR.2.2.2 x H locs c n hH).1) rfl dX9_of_12 ?_
  refine vv_aload_n hC dX9_of_15 rfl 2 rfl ?_
  refine hr _ C _ _ _ μ () _ _ [] _ _ _ _ hC hR hK hRo rfl (fun x H locs c n hH => (hR.2.2.2 x H locs c n hH).2.2) (by rw [hRm]; exact Nat.le_refl _) (by rw [hRm]; exact Nat.le_refl _) q1219 (Nat.le_of_ble_eq_true rfl) dX9_of_16 ?_
  refine vv_eq (st := [.int (evV (μ.1 132) L2)]) (st' := [.int vr]) (by rw [evr]) ?_
  refine vv_istore_n (lv' := [(3, .int vr), (2, .int vl), (0, .ref a), (1, .ref (ad 132))]) hC dX9_of_21 rfl (by decide) rfl ?_
  refine vv_aload_n hC dX9_of_22 rfl 2 rfl ?_
  refine vv_getfE hC hK fxX9_16_X9 (a := a) (V := pairV l0 r0 c0) (fun x H locs c n hH => (hR.2.2.2 x H locs c n hH).1) rfl dX9_of_23 ?_
  by_cases c1_0 : c0 = 37
  · replace h := h.1 c1_0
    rw [c1_0]
    refine vv_tableIn (tgt := 168) hC dX9_of_26 (by decide) (by decide) rfl rfl ?_
    refine vv_iload_n hC dX9_of_168 rfl 0 rfl ?_
    refine vv_if_ne (tgt := 176) hC dX9_of_169 rfl (fun c2 => ?_) (fun c2 => ?_)
    · replace h := h.1 c2
      refine vv_iload_n hC dX9_of_176 rfl 1 rfl ?_
      refine vv_iload_n hC dX9_of_177 rfl 0 rfl ?_
      obtain ⟨hne, h⟩ := h
      refine vv_irem hC dX9_of_178 hne ?_
      exact vv_iret hC hM dX9_of_179 h
    · replace h := h.2 c2
      refine vv_iconst hC dX9_of_172 nic_0 ?_
      refine vv_goto (tgt := 179) hC dX9_of_173 rfl ?_
      exact vv_iret hC hM dX9_of_179 h
  · replace h := h.2
    by_cases c1_1 : c0 = 38
    · replace h := h.1 c1_1
      rw [c1_1]
      refine vv_tableIn (tgt := 213) hC dX9_of_26 (by decide) (by decide) rfl rfl ?_
      refine vv_iload_n hC dX9_of_213 rfl 1 rfl ?_
      refine vv_if_eq (tgt := 225) hC dX9_of_214 rfl (fun c3 => ?_) (fun c3 => ?_)
      · replace h := h.1 c3
        refine vv_iconst hC dX9_of_225 nic_0 ?_
        exact vv_iret hC hM dX9_of_226 h
      · replace h := h.2 c3
        refine vv_iload_n hC dX9_of_217 rfl 0 rfl ?_
        refine vv_if_eq (tgt := 225) hC dX9_of_218 rfl (fun c4 => ?_) (fun c4 => ?_)
        · replace h := h.1 c4
          refine vv_iconst hC dX9_of_225 nic_0 ?_
          exact vv_iret hC hM dX9_of_226 h
        · replace h := h.2 c4
          refine vv_iconst hC dX9_of_221 nic_1 ?_
          refine vv_goto (tgt := 226) hC dX9_of_222 rfl ?_
          exact vv_iret hC hM dX9_of_226 h
    · replace h := h.2
      by_cases c1_2 : c0 = 42
      · replace h := h.1 c1_2
        rw [c1_2]
        refine vv_tableIn (tgt := 152) hC dX9_of_26 (by decide) (by decide) rfl rfl ?_
        refine vv_iload_n hC dX9_of_152 rfl 1 rfl ?_
        refine vv_iload_n hC dX9_of_153 rfl 0 rfl ?_
        refine vv_imul hC dX9_of_154 ?_
        exact vv_iret hC hM dX9_of_155 h
      · replace h := h.2
        by_cases c1_3 : c0 = 43
        · replace h := h.1 c1_3
          rw [c1_3]
          refine vv_tableIn (tgt := 144) hC dX9_of_26 (by decide) (by decide) rfl rfl ?_
          refine vv_iload_n hC dX9_of_144 rfl 1 rfl ?_
          refine vv_iload_n hC dX9_of_145 rfl 0 rfl ?_
          refine vv_iadd hC dX9_of_146 ?_
          exact vv_iret hC hM dX9_of_147 h
        · replace h := h.2
          by_cases c1_4 : c0 = 45
          · replace h := h.1 c1_4
            rw [c1_4]
            refine vv_tableIn (tgt := 148) hC dX9_of_26 (by decide) (by decide) rfl rfl ?_
            refine vv_iload_n hC dX9_of_148 rfl 1 rfl ?_
            refine vv_iload_n hC dX9_of_149 rfl 0 rfl ?_
            refine vv_isub hC dX9_of_150 ?_
            exact vv_iret hC hM dX9_of_151 h
          · replace h := h.2
            by_cases c1_5 : c0 = 47
            · replace h := h.1 c1_5
              rw [c1_5]
              refine vv_tableIn (tgt := 156) hC dX9_of_26 (by decide) (by decide) rfl rfl ?_
              refine vv_iload_n hC dX9_of_156 rfl 0 rfl ?_
              refine vv_if_ne (tgt := 164) hC dX9_of_157 rfl (fun c5 => ?_) (fun c5 => ?_)
              · replace h := h.1 c5
                refine vv_iload_n hC dX9_of_164 rfl 1 rfl ?_
                refine vv_iload_n hC dX9_of_165 rfl 0 rfl ?_
                obtain ⟨hne, h⟩ := h
                refine vv_idiv hC dX9_of_166 hne ?_
                exact vv_iret hC hM dX9_of_167 h
              · replace h := h.2 c5
                refine vv_iconst hC dX9_of_160 nic_0 ?_
                refine vv_goto (tgt := 167) hC dX9_of_161 rfl ?_
                exact vv_iret hC hM dX9_of_167 h
            · replace h := h.2
              by_cases c1_6 : c0 = 60
              · replace h := h.1 c1_6
                rw [c1_6]
                refine vv_tableIn (tgt := 180) hC dX9_of_26 (by decide) (by decide) rfl rfl ?_
                refine vv_iload_n hC dX9_of_180 rfl 1 rfl ?_
                refine vv_iload_n hC dX9_of_181 rfl 0 rfl ?_
                refine vv_icmp_ge (tgt := 189) hC dX9_of_182 rfl (fun c6 => ?_) (fun c6 => ?_)
                · replace h := h.1 c6
                  refine vv_iconst hC dX9_of_189 nic_0 ?_
                  exact vv_iret hC hM dX9_of_190 h
                · replace h := h.2 c6
                  refine vv_iconst hC dX9_of_185 nic_1 ?_
                  refine vv_goto (tgt := 190) hC dX9_of_186 rfl ?_
                  exact vv_iret hC hM dX9_of_190 h
              · replace h := h.2
                by_cases c1_7 : c0 = 61
                · replace h := h.1 c1_7
                  rw [c1_7]
                  refine vv_tableIn (tgt := 202) hC dX9_of_26 (by decide) (by decide) rfl rfl ?_
                  refine vv_iload_n hC dX9_of_202 rfl 1 rfl ?_
                  refine vv_iload_n hC dX9_of_203 rfl 0 rfl ?_
                  refine vv_icmp_ne (tgt := 211) hC dX9_of_204 rfl (fun c7 => ?_) (fun c7 => ?_)
                  · replace h := h.1 c7
                    refine vv_iconst hC dX9_of_211 nic_0 ?_
                    exact vv_iret hC hM dX9_of_212 h
                  · replace h := h.2 c7
                    refine vv_iconst hC dX9_of_207 nic_1 ?_
                    refine vv_goto (tgt := 212) hC dX9_of_208 rfl ?_
                    exact vv_iret hC hM dX9_of_212 h
                · replace h := h.2
                  by_cases c1_8 : c0 = 62
                  · replace h := h.1 c1_8
                    rw [c1_8]
                    refine vv_tableIn (tgt := 191) hC dX9_of_26 (by decide) (by decide) rfl rfl ?_
                    refine vv_iload_n hC dX9_of_191 rfl 1 rfl ?_
                    refine vv_iload_n hC dX9_of_192 rfl 0 rfl ?_
                    refine vv_icmp_le (tgt := 200) hC dX9_of_193 rfl (fun c8 => ?_) (fun c8 => ?_)
                    · replace h := h.1 c8
                      refine vv_iconst hC dX9_of_200 nic_0 ?_
                      exact vv_iret hC hM dX9_of_201 h
                    · replace h := h.2 c8
                      refine vv_iconst hC dX9_of_196 nic_1 ?_
                      refine vv_goto (tgt := 201) hC dX9_of_197 rfl ?_
                      exact vv_iret hC hM dX9_of_201 h
                  · replace h := h.2
                    replace h := h c1_0 c1_1 c1_2 c1_3 c1_4 c1_5 c1_6 c1_7 c1_8
                    by_cases c1_lo : c0.toInt < 37 ∨ 62 < c0.toInt
                    · refine vv_tableOut (tgt := 227) hC dX9_of_26 c1_lo rfl ?_
                      refine vv_iload_n hC dX9_of_227 rfl 1 rfl ?_
                      refine vv_if_ne (tgt := 235) hC dX9_of_228 rfl (fun c9 => ?_) (fun c9 => ?_)
                      · replace h := h.1 c9
                        refine vv_iconst hC dX9_of_235 nic_1 ?_
                        refine vv_goto (tgt := 240) hC dX9_of_236 rfl ?_
                        exact vv_iret hC hM dX9_of_240 h
                      · replace h := h.2 c9
                        refine vv_iload_n hC dX9_of_231 rfl 0 rfl ?_
                        refine vv_if_eq (tgt := 239) hC dX9_of_232 rfl (fun c10 => ?_) (fun c10 => ?_)
                        · replace h := h.1 c10
                          refine vv_iconst hC dX9_of_239 nic_0 ?_
                          exact vv_iret hC hM dX9_of_240 h
                        · replace h := h.2 c10
                          refine vv_iconst hC dX9_of_235 nic_1 ?_
                          refine vv_goto (tgt := 240) hC dX9_of_236 rfl ?_
                          exact vv_iret hC hM dX9_of_240 h
                    · obtain ⟨nn, hn1, hn2⟩ := sw_in (fun q => c1_lo (Or.inl q)) (fun q => c1_lo (Or.inr q))
                      match nn, hn1, hn2 with
                      | 0, _, hn2 => exact absurd (sw_eq (hn2.trans (by decide))) c1_0
                      | 1, _, hn2 => exact absurd (sw_eq (hn2.trans (by decide))) c1_1
                      | 2, _, hn2 =>
                        have ea : c0 = 39 := sw_eq (hn2.trans (by decide))
                        rw [ea]
                        refine vv_tableIn (tgt := 227) hC dX9_of_26 (by decide) (by decide) rfl rfl ?_
                        refine vv_iload_n hC dX9_of_227 rfl 1 rfl ?_
                        refine vv_if_ne (tgt := 235) hC dX9_of_228 rfl (fun c9 => ?_) (fun c9 => ?_)
                        · replace h := h.1 c9
                          refine vv_iconst hC dX9_of_235 nic_1 ?_
                          refine vv_goto (tgt := 240) hC dX9_of_236 rfl ?_
                          exact vv_iret hC hM dX9_of_240 h
                        · replace h := h.2 c9
                          refine vv_iload_n hC dX9_of_231 rfl 0 rfl ?_
                          refine vv_if_eq (tgt := 239) hC dX9_of_232 rfl (fun c10 => ?_) (fun c10 => ?_)
                          · replace h := h.1 c10
                            refine vv_iconst hC dX9_of_239 nic_0 ?_
                            exact vv_iret hC hM dX9_of_240 h
                          · replace h := h.2 c10
                            refine vv_iconst hC dX9_of_235 nic_1 ?_
                            refine vv_goto (tgt := 240) hC dX9_of_236 rfl ?_
                            exact vv_iret hC hM dX9_of_240 h
                      | 3, _, hn2 =>
                        have ea : c0 = 40 := sw_eq (hn2.trans (by decide))
                        rw [ea]
                        refine vv_tableIn (tgt := 227) hC dX9_of_26 (by decide) (by decide) rfl rfl ?_
                        refine vv_iload_n hC dX9_of_227 rfl 1 rfl ?_
                        refine vv_if_ne (tgt := 235) hC dX9_of_228 rfl (fun c9 => ?_) (fun c9 => ?_)
                        · replace h := h.1 c9
                          refine vv_iconst hC dX9_of_235 nic_1 ?_
                          refine vv_goto (tgt := 240) hC dX9_of_236 rfl ?_
                          exact vv_iret hC hM dX9_of_240 h
                        · replace h := h.2 c9
                          refine vv_iload_n hC dX9_of_231 rfl 0 rfl ?_
                          refine vv_if_eq (tgt := 239) hC dX9_of_232 rfl (fun c10 => ?_) (fun c10 => ?_)
                          · replace h := h.1 c10
                            refine vv_iconst hC dX9_of_239 nic_0 ?_
                            exact vv_iret hC hM dX9_of_240 h
                          · replace h := h.2 c10
                            refine vv_iconst hC dX9_of_235 nic_1 ?_
                            refine vv_goto (tgt := 240) hC dX9_of_236 rfl ?_
                            exact vv_iret hC hM dX9_of_240 h
                      | 4, _, hn2 =>
                        have ea : c0 = 41 := sw_eq (hn2.trans (by decide))
                        rw [ea]
                        refine vv_tableIn (tgt := 227) hC dX9_of_26 (by decide) (by decide) rfl rfl ?_
                        refine vv_iload_n hC dX9_of_227 rfl 1 rfl ?_
                        refine vv_if_ne (tgt := 235) hC dX9_of_228 rfl (fun c9 => ?_) (fun c9 => ?_)
                        · replace h := h.1 c9
                          refine vv_iconst hC dX9_of_235 nic_1 ?_
                          refine vv_goto (tgt := 240) hC dX9_of_236 rfl ?_
                          exact vv_iret hC hM dX9_of_240 h
                        · replace h := h.2 c9
                          refine vv_iload_n hC dX9_of_231 rfl 0 rfl ?_
                          refine vv_if_eq (tgt := 239) hC dX9_of_232 rfl (fun c10 => ?_) (fun c10 => ?_)
                          · replace h := h.1 c10
                            refine vv_iconst hC dX9_of_239 nic_0 ?_
                            exact vv_iret hC hM dX9_of_240 h
                          · replace h := h.2 c10
                            refine vv_iconst hC dX9_of_235 nic_1 ?_
                            refine vv_goto (tgt := 240) hC dX9_of_236 rfl ?_
                            exact vv_iret hC hM dX9_of_240 h
                      | 5, _, hn2 => exact absurd (sw_eq (hn2.trans (by decide))) c1_2
                      | 6, _, hn2 => exact absurd (sw_eq (hn2.trans (by decide))) c1_3
                      | 7, _, hn2 =>
                        have ea : c0 = 44 := sw_eq (hn2.trans (by decide))
                        rw [ea]
                        refine vv_tableIn (tgt := 227) hC dX9_of_26 (by decide) (by decide) rfl rfl ?_
                        refine vv_iload_n hC dX9_of_227 rfl 1 rfl ?_
                        refine vv_if_ne (tgt := 235) hC dX9_of_228 rfl (fun c9 => ?_) (fun c9 => ?_)
                        · replace h := h.1 c9
                          refine vv_iconst hC dX9_of_235 nic_1 ?_
                          refine vv_goto (tgt := 240) hC dX9_of_236 rfl ?_
                          exact vv_iret hC hM dX9_of_240 h
                        · replace h := h.2 c9
                          refine vv_iload_n hC dX9_of_231 rfl 0 rfl ?_
                          refine vv_if_eq (tgt := 239) hC dX9_of_232 rfl (fun c10 => ?_) (fun c10 => ?_)
                          · replace h := h.1 c10
                            refine vv_iconst hC dX9_of_239 nic_0 ?_
                            exact vv_iret hC hM dX9_of_240 h
                          · replace h := h.2 c10
                            refine vv_iconst hC dX9_of_235 nic_1 ?_
                            refine vv_goto (tgt := 240) hC dX9_of_236 rfl ?_
                            exact vv_iret hC hM dX9_of_240 h
                      | 8, _, hn2 => exact absurd (sw_eq (hn2.trans (by decide))) c1_4
                      | 9, _, hn2 =>
                        have ea : c0 = 46 := sw_eq (hn2.trans (by decide))
                        rw [ea]
                        refine vv_tableIn (tgt := 227) hC dX9_of_26 (by decide) (by decide) rfl rfl ?_
                        refine vv_iload_n hC dX9_of_227 rfl 1 rfl ?_
                        refine vv_if_ne (tgt := 235) hC dX9_of_228 rfl (fun c9 => ?_) (fun c9 => ?_)
                        · replace h := h.1 c9
                          refine vv_iconst hC dX9_of_235 nic_1 ?_
                          refine vv_goto (tgt := 240) hC dX9_of_236 rfl ?_
                          exact vv_iret hC hM dX9_of_240 h
                        · replace h := h.2 c9
                          refine vv_iload_n hC dX9_of_231 rfl 0 rfl ?_
                          refine vv_if_eq (tgt := 239) hC dX9_of_232 rfl (fun c10 => ?_) (fun c10 => ?_)
                          · replace h := h.1 c10
                            refine vv_iconst hC dX9_of_239 nic_0 ?_
                            exact vv_iret hC hM dX9_of_240 h
                          · replace h := h.2 c10
                            refine vv_iconst hC dX9_of_235 nic_1 ?_
                            refine vv_goto (tgt := 240) hC dX9_of_236 rfl ?_
                            exact vv_iret hC hM dX9_of_240 h
                      | 10, _, hn2 => exact absurd (sw_eq (hn2.trans (by decide))) c1_5
                      | 11, _, hn2 =>
                        have ea : c0 = 48 := sw_eq (hn2.trans (by decide))
                        rw [ea]
                        refine vv_tableIn (tgt := 227) hC dX9_of_26 (by decide) (by decide) rfl rfl ?_
                        refine vv_iload_n hC dX9_of_227 rfl 1 rfl ?_
                        refine vv_if_ne (tgt := 235) hC dX9_of_228 rfl (fun c9 => ?_) (fun c9 => ?_)
                        · replace h := h.1 c9
                          refine vv_iconst hC dX9_of_235 nic_1 ?_
                          refine vv_goto (tgt := 240) hC dX9_of_236 rfl ?_
                          exact vv_iret hC hM dX9_of_240 h
                        · replace h := h.2 c9
                          refine vv_iload_n hC dX9_of_231 rfl 0 rfl ?_
                          refine vv_if_eq (tgt := 239) hC dX9_of_232 rfl (fun c10 => ?_) (fun c10 => ?_)
                          · replace h := h.1 c10
                            refine vv_iconst hC dX9_of_239 nic_0 ?_
                            exact vv_iret hC hM dX9_of_240 h
                          · replace h := h.2 c10
                            refine vv_iconst hC dX9_of_235 nic_1 ?_
                            refine vv_goto (tgt := 240) hC dX9_of_236 rfl ?_
                            exact vv_iret hC hM dX9_of_240 h
                      | 12, _, hn2 =>
                        have ea : c0 = 49 := sw_eq (hn2.trans (by decide))
                        rw [ea]
                        refine vv_tableIn (tgt := 227) hC dX9_of_26 (by decide) (by decide) rfl rfl ?_
                        refine vv_iload_n hC dX9_of_227 rfl 1 rfl ?_
                        refine vv_if_ne (tgt := 235) hC dX9_of_228 rfl (fun c9 => ?_) (fun c9 => ?_)
                        · replace h := h.1 c9
                          refine vv_iconst hC dX9_of_235 nic_1 ?_
                          refine vv_goto (tgt := 240) hC dX9_of_236 rfl ?_
                          exact vv_iret hC hM dX9_of_240 h
                        · replace h := h.2 c9
                          refine vv_iload_n hC dX9_of_231 rfl 0 rfl ?_
                          refine vv_if_eq (tgt := 239) hC dX9_of_232 rfl (fun c10 => ?_) (fun c10 => ?_)
                          · replace h := h.1 c10
                            refine vv_iconst hC dX9_of_239 nic_0 ?_
                            exact vv_iret hC hM dX9_of_240 h
                          · replace h := h.2 c10
                            refine vv_iconst hC dX9_of_235 nic_1 ?_
                            refine vv_goto (tgt := 240) hC dX9_of_236 rfl ?_
                            exact vv_iret hC hM dX9_of_240 h
                      | 13, _, hn2 =>
                        have ea : c0 = 50 := sw_eq (hn2.trans (by decide))
                        rw [ea]
                        refine vv_tableIn (tgt := 227) hC dX9_of_26 (by decide) (by decide) rfl rfl ?_
                        refine vv_iload_n hC dX9_of_227 rfl 1 rfl ?_
                        refine vv_if_ne (tgt := 235) hC dX9_of_228 rfl (fun c9 => ?_) (fun c9 => ?_)
                        · replace h := h.1 c9
                          refine vv_iconst hC dX9_of_235 nic_1 ?_
                          refine vv_goto (tgt := 240) hC dX9_of_236 rfl ?_
                          exact vv_iret hC hM dX9_of_240 h
                        · replace h := h.2 c9
                          refine vv_iload_n hC dX9_of_231 rfl 0 rfl ?_
                          refine vv_if_eq (tgt := 239) hC dX9_of_232 rfl (fun c10 => ?_) (fun c10 => ?_)
                          · replace h := h.1 c10
                            refine vv_iconst hC dX9_of_239 nic_0 ?_
                            exact vv_iret hC hM dX9_of_240 h
                          · replace h := h.2 c10
                            refine vv_iconst hC dX9_of_235 nic_1 ?_
                            refine vv_goto (tgt := 240) hC dX9_of_236 rfl ?_
                            exact vv_iret hC hM dX9_of_240 h
                      | 14, _, hn2 =>
                        have ea : c0 = 51 := sw_eq (hn2.trans (by decide))
                        rw [ea]
                        refine vv_tableIn (tgt := 227) hC dX9_of_26 (by decide) (by decide) rfl rfl ?_
                        refine vv_iload_n hC dX9_of_227 rfl 1 rfl ?_
                        refine vv_if_ne (tgt := 235) hC dX9_of_228 rfl (fun c9 => ?_) (fun c9 => ?_)
                        · replace h := h.1 c9
                          refine vv_iconst hC dX9_of_235 nic_1 ?_
                          refine vv_goto (tgt := 240) hC dX9_of_236 rfl ?_
                          exact vv_iret hC hM dX9_of_240 h
                        · replace h := h.2 c9
                          refine vv_iload_n hC dX9_of_231 rfl 0 rfl ?_
                          refine vv_if_eq (tgt := 239) hC dX9_of_232 rfl (fun c10 => ?_) (fun c10 => ?_)
                          · replace h := h.1 c10
                            refine vv_iconst hC dX9_of_239 nic_0 ?_
                            exact vv_iret hC hM dX9_of_240 h
                          · replace h := h.2 c10
                            refine vv_iconst hC dX9_of_235 nic_1 ?_
                            refine vv_goto (tgt := 240) hC dX9_of_236 rfl ?_
                            exact vv_iret hC hM dX9_of_240 h
                      | 15, _, hn2 =>
                        have ea : c0 = 52 := sw_eq (hn2.trans (by decide))
                        rw [ea]
                        refine vv_tableIn (tgt := 227) hC dX9_of_26 (by decide) (by decide) rfl rfl ?_
                        refine vv_iload_n hC dX9_of_227 rfl 1 rfl ?_
                        refine vv_if_ne (tgt := 235) hC dX9_of_228 rfl (fun c9 => ?_) (fun c9 => ?_)
                        · replace h := h.1 c9
                          refine vv_iconst hC dX9_of_235 nic_1 ?_
                          refine vv_goto (tgt := 240) hC dX9_of_236 rfl ?_
                          exact vv_iret hC hM dX9_of_240 h
                        · replace h := h.2 c9
                          refine vv_iload_n hC dX9_of_231 rfl 0 rfl ?_
                          refine vv_if_eq (tgt := 239) hC dX9_of_232 rfl (fun c10 => ?_) (fun c10 => ?_)
                          · replace h := h.1 c10
                            refine vv_iconst hC dX9_of_239 nic_0 ?_
                            exact vv_iret hC hM dX9_of_240 h
                          · replace h := h.2 c10
                            refine vv_iconst hC dX9_of_235 nic_1 ?_
                            refine vv_goto (tgt := 240) hC dX9_of_236 rfl ?_
                            exact vv_iret hC hM dX9_of_240 h
                      | 16, _, hn2 =>
                        have ea : c0 = 53 := sw_eq (hn2.trans (by decide))
                        rw [ea]
                        refine vv_tableIn (tgt := 227) hC dX9_of_26 (by decide) (by decide) rfl rfl ?_
                        refine vv_iload_n hC dX9_of_227 rfl 1 rfl ?_
                        refine vv_if_ne (tgt := 235) hC dX9_of_228 rfl (fun c9 => ?_) (fun c9 => ?_)
                        · replace h := h.1 c9
                          refine vv_iconst hC dX9_of_235 nic_1 ?_
                          refine vv_goto (tgt := 240) hC dX9_of_236 rfl ?_
                          exact vv_iret hC hM dX9_of_240 h
                        · replace h := h.2 c9
                          refine vv_iload_n hC dX9_of_231 rfl 0 rfl ?_
                          refine vv_if_eq (tgt := 239) hC dX9_of_232 rfl (fun c10 => ?_) (fun c10 => ?_)
                          · replace h := h.1 c10
                            refine vv_iconst hC dX9_of_239 nic_0 ?_
                            exact vv_iret hC hM dX9_of_240 h
                          · replace h := h.2 c10
                            refine vv_iconst hC dX9_of_235 nic_1 ?_
                            refine vv_goto (tgt := 240) hC dX9_of_236 rfl ?_
                            exact vv_iret hC hM dX9_of_240 h
                      | 17, _, hn2 =>
                        have ea : c0 = 54 := sw_eq (hn2.trans (by decide))
                        rw [ea]
                        refine vv_tableIn (tgt := 227) hC dX9_of_26 (by decide) (by decide) rfl rfl ?_
                        refine vv_iload_n hC dX9_of_227 rfl 1 rfl ?_
                        refine vv_if_ne (tgt := 235) hC dX9_of_228 rfl (fun c9 => ?_) (fun c9 => ?_)
                        · replace h := h.1 c9
                          refine vv_iconst hC dX9_of_235 nic_1 ?_
                          refine vv_goto (tgt := 240) hC dX9_of_236 rfl ?_
                          exact vv_iret hC hM dX9_of_240 h
                        · replace h := h.2 c9
                          refine vv_iload_n hC dX9_of_231 rfl 0 rfl ?_
                          refine vv_if_eq (tgt := 239) hC dX9_of_232 rfl (fun c10 => ?_) (fun c10 => ?_)
                          · replace h := h.1 c10
                            refine vv_iconst hC dX9_of_239 nic_0 ?_
                            exact vv_iret hC hM dX9_of_240 h
                          · replace h := h.2 c10
                            refine vv_iconst hC dX9_of_235 nic_1 ?_
                            refine vv_goto (tgt := 240) hC dX9_of_236 rfl ?_
                            exact vv_iret hC hM dX9_of_240 h
                      | 18, _, hn2 =>
                        have ea : c0 = 55 := sw_eq (hn2.trans (by decide))
                        rw [ea]
                        refine vv_tableIn (tgt := 227) hC dX9_of_26 (by decide) (by decide) rfl rfl ?_
                        refine vv_iload_n hC dX9_of_227 rfl 1 rfl ?_
                        refine vv_if_ne (tgt := 235) hC dX9_of_228 rfl (fun c9 => ?_) (fun c9 => ?_)
                        · replace h := h.1 c9
                          refine vv_iconst hC dX9_of_235 nic_1 ?_
                          refine vv_goto (tgt := 240) hC dX9_of_236 rfl ?_
                          exact vv_iret hC hM dX9_of_240 h
                        · replace h := h.2 c9
                          refine vv_iload_n hC dX9_of_231 rfl 0 rfl ?_
                          refine vv_if_eq (tgt := 239) hC dX9_of_232 rfl (fun c10 => ?_) (fun c10 => ?_)
                          · replace h := h.1 c10
                            refine vv_iconst hC dX9_of_239 nic_0 ?_
                            exact vv_iret hC hM dX9_of_240 h
                          · replace h := h.2 c10
                            refine vv_iconst hC dX9_of_235 nic_1 ?_
                            refine vv_goto (tgt := 240) hC dX9_of_236 rfl ?_
                            exact vv_iret hC hM dX9_of_240 h
                      | 19, _, hn2 =>
                        have ea : c0 = 56 := sw_eq (hn2.trans (by decide))
                        rw [ea]
                        refine vv_tableIn (tgt := 227) hC dX9_of_26 (by decide) (by decide) rfl rfl ?_
                        refine vv_iload_n hC dX9_of_227 rfl 1 rfl ?_
                        refine vv_if_ne (tgt := 235) hC dX9_of_228 rfl (fun c9 => ?_) (fun c9 => ?_)
                        · replace h := h.1 c9
                          refine vv_iconst hC dX9_of_235 nic_1 ?_
                          refine vv_goto (tgt := 240) hC dX9_of_236 rfl ?_
                          exact vv_iret hC hM dX9_of_240 h
                        · replace h := h.2 c9
                          refine vv_iload_n hC dX9_of_231 rfl 0 rfl ?_
                          refine vv_if_eq (tgt := 239) hC dX9_of_232 rfl (fun c10 => ?_) (fun c10 => ?_)
                          · replace h := h.1 c10
                            refine vv_iconst hC dX9_of_239 nic_0 ?_
                            exact vv_iret hC hM dX9_of_240 h
                          · replace h := h.2 c10
                            refine vv_iconst hC dX9_of_235 nic_1 ?_
                            refine vv_goto (tgt := 240) hC dX9_of_236 rfl ?_
                            exact vv_iret hC hM dX9_of_240 h
                      | 20, _, hn2 =>
                        have ea : c0 = 57 := sw_eq (hn2.trans (by decide))
                        rw [ea]
                        refine vv_tableIn (tgt := 227) hC dX9_of_26 (by decide) (by decide) rfl rfl ?_
                        refine vv_iload_n hC dX9_of_227 rfl 1 rfl ?_
                        refine vv_if_ne (tgt := 235) hC dX9_of_228 rfl (fun c9 => ?_) (fun c9 => ?_)
                        · replace h := h.1 c9
                          refine vv_iconst hC dX9_of_235 nic_1 ?_
                          refine vv_goto (tgt := 240) hC dX9_of_236 rfl ?_
                          exact vv_iret hC hM dX9_of_240 h
                        · replace h := h.2 c9
                          refine vv_iload_n hC dX9_of_231 rfl 0 rfl ?_
                          refine vv_if_eq (tgt := 239) hC dX9_of_232 rfl (fun c10 => ?_) (fun c10 => ?_)
                          · replace h := h.1 c10
                            refine vv_iconst hC dX9_of_239 nic_0 ?_
                            exact vv_iret hC hM dX9_of_240 h
                          · replace h := h.2 c10
                            refine vv_iconst hC dX9_of_235 nic_1 ?_
                            refine vv_goto (tgt := 240) hC dX9_of_236 rfl ?_
                            exact vv_iret hC hM dX9_of_240 h
                      | 21, _, hn2 =>
                        have ea : c0 = 58 := sw_eq (hn2.trans (by decide))
                        rw [ea]
                        refine vv_tableIn (tgt := 227) hC dX9_of_26 (by decide) (by decide) rfl rfl ?_
                        refine vv_iload_n hC dX9_of_227 rfl 1 rfl ?_
                        refine vv_if_ne (tgt := 235) hC dX9_of_228 rfl (fun c9 => ?_) (fun c9 => ?_)
                        · replace h := h.1 c9
                          refine vv_iconst hC dX9_of_235 nic_1 ?_
                          refine vv_goto (tgt := 240) hC dX9_of_236 rfl ?_
                          exact vv_iret hC hM dX9_of_240 h
                        · replace h := h.2 c9
                          refine vv_iload_n hC dX9_of_231 rfl 0 rfl ?_
                          refine vv_if_eq (tgt := 239) hC dX9_of_232 rfl (fun c10 => ?_) (fun c10 => ?_)
                          · replace h := h.1 c10
                            refine vv_iconst hC dX9_of_239 nic_0 ?_
                            exact vv_iret hC hM dX9_of_240 h
                          · replace h := h.2 c10
                            refine vv_iconst hC dX9_of_235 nic_1 ?_
                            refine vv_goto (tgt := 240) hC dX9_of_236 rfl ?_
                            exact vv_iret hC hM dX9_of_240 h
                      | 22, _, hn2 =>
                        have ea : c0 = 59 := sw_eq (hn2.trans (by decide))
                        rw [ea]
                        refine vv_tableIn (tgt := 227) hC dX9_of_26 (by decide) (by decide) rfl rfl ?_
                        refine vv_iload_n hC dX9_of_227 rfl 1 rfl ?_
                        refine vv_if_ne (tgt := 235) hC dX9_of_228 rfl (fun c9 => ?_) (fun c9 => ?_)
                        · replace h := h.1 c9
                          refine vv_iconst hC dX9_of_235 nic_1 ?_
                          refine vv_goto (tgt := 240) hC dX9_of_236 rfl ?_
                          exact vv_iret hC hM dX9_of_240 h
                        · replace h := h.2 c9
                          refine vv_iload_n hC dX9_of_231 rfl 0 rfl ?_
                          refine vv_if_eq (tgt := 239) hC dX9_of_232 rfl (fun c10 => ?_) (fun c10 => ?_)
                          · replace h := h.1 c10
                            refine vv_iconst hC dX9_of_239 nic_0 ?_
                            exact vv_iret hC hM dX9_of_240 h
                          · replace h := h.2 c10
                            refine vv_iconst hC dX9_of_235 nic_1 ?_
                            refine vv_goto (tgt := 240) hC dX9_of_236 rfl ?_
                            exact vv_iret hC hM dX9_of_240 h
                      | 23, _, hn2 => exact absurd (sw_eq (hn2.trans (by decide))) c1_6
                      | 24, _, hn2 => exact absurd (sw_eq (hn2.trans (by decide))) c1_7
                      | 25, _, hn2 => exact absurd (sw_eq (hn2.trans (by decide))) c1_8
                      | q + 26, hn1, _ => exact absurd hn1 (by omega)
