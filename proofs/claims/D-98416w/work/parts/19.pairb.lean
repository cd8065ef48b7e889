/-! Value.of, Not.of, the constants; Node.of by the depth -/
set_option maxRecDepth 100000
theorem nf8 : FAcc RX8 7 8 1 0 .int true := ⟨RX8, TX8, tyX8, rfl, by decide, in_X8, q972, tyX8_ok, nmX8, rfl, rfl⟩
theorem met_X8_of {l : Launch} {D : va_G} {ac : Nat → ClassId} {ad : Nat → Nat} {S : XS} (hLay : LayOk ad (knX S)) {a : Nat} {v : Int32} (ho : outX ad S a) (μ : WS) : CMet l yX8_of cX8_of 2 (some .int) { frames := 0, cells := 0, slots := 0, locals := 0 } D ac ad (knX S) (fun H => t_OB a (D.1 8) 1 (D.2 8) H (fun _ => .int v)) [.ref a, .ref (ad 132)] μ (qI fun r μ' => r = v ∧ μ' = μ) := by
  refine vv_met (lv := [(0, .ref a), (1, .ref (ad 132))]) (by decide) hLay (tob.ok ho) (Nat.le_of_ble_eq_true rfl) rfl ⟨rfl, rfl⟩ (fun C hC hK hRm hLl hR hM => ?_)
  refine vv_aload_n hC dX8_of_0 rfl 0 rfl ?_
  refine vv_getfE hC hK nf8 (a := a) (V := fun _ => .int v) (fun x H locs c n hH => hR.2.2.2 x H locs c n hH) rfl dX8_of_1 ?_
  exact vv_iret hC hM dX8_of_4 ⟨rfl, rfl⟩
theorem nf7 : FAcc RX7 7 7 1 0 (.object "SealCasts$Node") true := ⟨RX7, TX7, tyX7, rfl, by decide, in_X7, q930, tyX7_ok, nmX7, rfl, rfl⟩
def exNot (D : va_G) (ac : Nat → ClassId) (ad : Nat → Nat) (S : XS) (d a n0 : Nat) (L1 : List (Int32 × Int32)) : Heap → Prop := fun H => t_OB a (D.1 7) 1 (D.2 7) H (fun _ => .ref n0) ∧ nodeX D ac ad S d n0 L1 H
theorem exNot.ok {D : va_G} {ac : Nat → ClassId} {ad : Nat → Nat} {S : XS} {d a n0 : Nat} {L1 : List (Int32 × Int32)} (h : outX ad S a) : ExOk ad (knX S) (exNot D ac ad S d a n0 L1) := fun H H' hs ho hp => ⟨tob.ok h H H' hs ho hp.1, nodeX.ok H H' hs ho hp.2⟩
theorem met_X7_of {l : Launch} {D : va_G} {ac : Nat → ClassId} {ad : Nat → Nat} {S : XS} (hLay : LayOk ad (knX S)) {dd a n0 : Nat} {L1 : List (Int32 × Int32)} (ho : outX ad S a) (hl : NodeRow l D ac ad (knX S) dd n0 (nodeX D ac ad S dd n0 L1) (fun ask => evV ask L1)) (μ : WS) : CMet l yX7_of cX7_of 2 (some .int) { frames := dd + 1, cells := 0, slots := 0, locals := 30 * (dd + 1) } D ac ad (knX S) (exNot D ac ad S dd a n0 L1) [.ref a, .ref (ad 132)] μ (qI fun r μ' => r = (if evV (μ.1 132) L1 = 0 then 1 else 0) ∧ μ' = μ) := by
  refine vv_met (lv := [(0, .ref a), (1, .ref (ad 132))]) (by decide) hLay (exNot.ok ho) (Nat.le_of_ble_eq_true rfl) rfl ⟨rfl, rfl⟩ (fun C hC hK hRm hLl hR hM => ?_)
  subst hLl
  have hRo : RoomOk (HPW D ac ad (knX S) (exNot D ac ad S dd a n0 L1) (vS C)) (vR C) := HPW.room
  refine vv_aload_n hC dX7_of_0 rfl 0 rfl ?_
  refine vv_getfE hC hK nf7 (a := a) (V := fun _ => .ref n0) (fun x H locs c n hH => (hR.2.2.2 x H locs c n hH).1) rfl dX7_of_1 ?_
  refine vv_aload_n hC dX7_of_4 rfl 1 rfl ?_
  refine hl _ C _ _ _ μ () _ _ [] _ _ _ _ hC hR hK hRo rfl (fun x H locs c n hH => (hR.2.2.2 x H locs c n hH).2) (by rw [hRm]; exact Nat.le_refl _) (by rw [hRm]; exact Nat.le_refl _) q1211 (Nat.le_of_ble_eq_true rfl) dX7_of_5 ?_
  refine vv_if_ne (tgt := 17) hC dX7_of_10 rfl (fun c => ?_) (fun c => ?_)
  · refine vv_iconst hC dX7_of_17 (v := 0) rfl ?_
    exact vv_iret hC hM dX7_of_18 ⟨(if_neg c).symm, rfl⟩
  · refine vv_iconst hC dX7_of_13 (v := 1) rfl ?_
    refine vv_goto (tgt := 18) hC dX7_of_14 rfl ?_
    exact vv_iret hC hM dX7_of_18 ⟨(if_pos c).symm, rfl⟩
theorem evTwo_w {S : XS} {c a b : Int32} (hc : opC c) (μ : WS) : w_X9_of S a b c μ (fun r μ' => r = evTwo c a b ∧ μ' = μ) := by
  unfold w_X9_of
  rcases hc with rfl | rfl | rfl | rfl | rfl | rfl | rfl | rfl | rfl | rfl <;> simp [evTwo] <;> (try split) <;> simp_all <;> (try omega)
theorem node_row (l : Launch) (D : va_G) (ac : Nat → ClassId) (ad : Nat → Nat) (S : XS) (hLay : LayOk ad (knX S)) : ∀ (d a : Nat) (L : List (Int32 × Int32)), NodeRow l D ac ad (knX S) d a (nodeX D ac ad S d a L) (fun ask => evV ask L)
  | 0, _, _ => by
    intro ε C nL HP Qf μ z pc lv rest cc own idx Ex hC hR hK hRo hLl hP hfr hlo hlink hcat d0 kk
    obtain ⟨p, l, e, R, s, m, args, below, meth, c⟩ := C
    intro H locs cells slots ls hH hl
    exact (hP _ _ _ _ _ hH).elim
  | d + 1, a, L => by
    intro ε C nL HP Qf μ z pc lv rest cc own idx Ex hC hR hK hRo hLl hP hfr hlo hlink hcat d0 kk
    -- the sort of the node is read off the heap at hand: each road takes that heap alone
    obtain ⟨p, l', e, R, s, m, args, below, meth, c⟩ := C
    intro H locs cells slots ls hH hl
    obtain ⟨ho, hc⟩ := hP _ _ _ _ _ hH
    have one : ∀ (P : Heap → Prop) (v : (Nat → Int32) → Int32), ExOk ad (knX S) P → P H → v (μ.1 132) = evV (μ.1 132) L → NodeRow l D ac ad (knX S) (d + 1) a P v → W p l' e R s m args below meth c H locs cells slots Qf (F0 m pc ls (.ref (ad 132) :: .ref a :: rest)) := by
      intro P v hE hPH hv hN
      -- the road of the heaps that keep P
      have := hN ε (p, l', e, R, s, m, args, below, meth, c) nL (fun x H locs c n => HP x H locs c n ∧ P H) Qf μ z pc lv rest cc own idx Ex hC
        ⟨hR.1, fun x H locs c n h => hR.2.1 x H locs c n h.1, fun x H locs c n μ' H' L h hW hs ho hL => ⟨hR.2.2.1 x H locs c n μ' H' L h.1 hW hs ho hL, hE H H' hs ho h.2⟩, fun x H locs c n h => hR.2.2.2 x H locs c n h.1⟩
        hK (fun x H locs c n h => hRo x H locs c n h.1) hLl (fun x H locs c n h => h.2) hfr hlo hlink hcat d0 ?_
      · exact this H locs cells slots ls ⟨hH, hPH⟩ hl
      · intro H1 locs1 c1 n1 ls1 h1 hl1
        rw [hv]
        exact kk H1 locs1 c1 n1 ls1 h1.1 hl1
    have ih := node_row l D ac ad S hLay d
    rcases hc with ⟨v, rfl, ht⟩ | ⟨k, hk, rfl, cell, g1, g2, g3⟩ | ⟨n, L1, rfl, ht, h1⟩ | ⟨l0, r0, c0, L1, L2, rfl, hop, ht, h1, h2⟩
    · exact one (fun H => t_OB a (D.1 8) 1 (D.2 8) H (fun _ => .int v)) (fun _ => v) (tob.ok ho) ht rfl (nd_row (Cn := RX8) (cC := D.1 8) (fun μ => met_X8_of hLay ho μ) (fun U hK => (hK.1.1 8 _ rfl).2) (fun H hT => by obtain ⟨q, e1, e2, e3, -⟩ := hT; exact ⟨q, e1, by rw [e3]; rfl, e2⟩) (by unfold kxF; simp) q1221 q1223 q135 q1225 ⟨rfl, rfl⟩ ⟨Nat.zero_le _, by show 8 + (_ + 11) + 0 ≤ _; omega⟩)
    · exact one _ (fun ask => ask k) (cel.ok ho) ⟨cell, g1, g2, g3⟩ (evV_of (ev_ask hk)).symm (ask_row l D ac ad S hLay d a k hk)
    · exact one (exNot D ac ad S d a n L1) (fun ask => if evV ask L1 = 0 then 1 else 0) (exNot.ok ho) ⟨ht, h1⟩ (evV_of (ev_not (nodeP.ev _ d n L1 h1))).symm (nd_row (Cn := RX7) (cC := D.1 7) (fun μ => met_X7_of hLay ho (ih n L1) μ) (fun U hK => (hK.1.1 7 _ rfl).2) (fun H hT => by obtain ⟨⟨q, e1, e2, e3, -⟩, -⟩ := hT; exact ⟨q, e1, by rw [e3]; rfl, e2⟩) (by unfold kxF; simp) q1205 q1207 q132 q1209 ⟨rfl, rfl⟩ ⟨Nat.le_refl _, by show 8 + (_ + 11) + 30 * (d + 1) ≤ _; omega⟩)
    · exact one (exPair D ac ad S d a l0 r0 c0 L1 L2) (fun ask => evTwo c0 (evV ask L1) (evV ask L2)) (exPair.ok ho) ⟨ht, h1, h2⟩ (evV_of (ev_two hop (nodeP.ev _ d l0 L1 h1) (nodeP.ev _ d r0 L2 h2))).symm (nd_row (Cn := RX9) (cC := D.1 9) (fun μ => met_X9_of hLay ho (ih l0 L1) (ih r0 L2) μ _ (evTwo_w hop μ)) (fun U hK => (hK.1.1 9 _ rfl).2) (fun H hT => by obtain ⟨⟨q, e1, e2, e3, -⟩, -⟩ := hT; exact ⟨q, e1, by rw [e3]; rfl, e2⟩) (by unfold kxF; simp) q1213 q1215 q136 q1217 ⟨rfl, rfl⟩ ⟨Nat.le_refl _, by show 8 + (_ + 11) + 30 * (d + 1) ≤ _; omega⟩)
