/-! chests and facts by their numbers: values of fields, casts -/
set_option maxRecDepth 10000
theorem fvc {ad : Nat → Nat} {b : Nat} (hb : isChestR b) (f : Nat → Int32) (g : Nat → Int64) (r : Nat → Option Nat) (k : Nat) (h : k < 7) : fval ad (ftC ((b - 1000) / 8)) f g r k = .ref (ad (b + 1 + k)) := by
  obtain ⟨c, hc, rfl⟩ := hb
  have e : (1000 + 8 * c - 1000) / 8 = c := by omega
  rw [e]
  unfold fval ftC
  rw [if_pos h]
  rfl
theorem fti {b : Nat} (_hb : isChestR b) (k : Nat) (h : 7 ≤ k) : ftC ((b - 1000) / 8) k = .inl 0 := by
  unfold ftC
  rw [if_neg (by omega)]
theorem fvi {ad : Nat → Nat} {b : Nat} (hb : isChestR b) (f : Nat → Int32) (g : Nat → Int64) (r : Nat → Option Nat) (k : Nat) (h : 7 ≤ k) : fval ad (ftC ((b - 1000) / 8)) f g r k = .int (f k) := by
  unfold fval
  rw [fti hb k h]
  rfl
def isFactA (S : XS) (b : Nat) : Prop := 100000 ≤ b ∧ S.1 b = true ∧ S.2.1 b < 4
theorem isFactA.to {S : XS} {b : Nat} (h : isFactA S b) : isFactR S (S.2.1 b) b ∧ S.2.1 b < 4 := ⟨⟨h.1, h.2.1, rfl⟩, h.2.2⟩
/-- the four sorts of a fact -/
theorem fact4 {s : Nat} (h : s < 4) {P : Prop} (h0 : s = 0 → P) (h1 : s = 1 → P) (h2 : s = 2 → P) (h3 : s = 3 → P) : P := by
  rcases (show s = 0 ∨ s = 1 ∨ s = 2 ∨ s = 3 by omega) with e | e | e | e
  · exact h0 e
  · exact h1 e
  · exact h2 e
  · exact h3 e
section Facts
variable {ε : Type} {C : VCx} {nL : Nat} {HP : WS × ε → Heap → List Loc → Nat → Nat → Prop} {Qf : State → Prop} {μ : WS} {z : ε} {pc : Nat} {lv : List (Nat × Value)} {st : List Value} {cc : ByteArray} {own : String} {D : va_G} {ac : Nat → ClassId} {ad : Nat → Nat} {S : XS} {Ex : Heap → Prop} {b : Nat}
theorem xx_castF (hC : VOk C cc nL own) (hR : RegOk HP D ac ad (knX S) Ex) (hK : KK D ac (vS C)) (hb : isFactA S b) {index : Nat} (hw : Cond.classLink own index RX11 ∈ lw_all) (d : decode cc pc = .ok (.checkcast index, 3)) (k : VV C nL HP Qf (μ, z) (pc + 3) lv (.ref (ad b) :: st)) : VV C nL HP Qf (μ, z) pc lv (.ref (ad b) :: st) := by
  obtain ⟨h1, h2⟩ := hb.to
  have h3 := kx_fact h1
  refine fact4 h2 (fun e => ?_) (fun e => ?_) (fun e => ?_) (fun e => ?_) <;> rw [e] at h3
  · exact vv_castY hC hR hK h3 (Cn := RX12) rfl hw (by unfold kxW; simp) d k
  · exact vv_castY hC hR hK h3 (Cn := RX13) rfl hw (by unfold kxW; simp) d k
  · exact vv_castY hC hR hK h3 (Cn := RX14) rfl hw (by unfold kxW; simp) d k
  · exact vv_castY hC hR hK h3 (Cn := RX15) rfl hw (by unfold kxW; simp) d k
theorem xx_inst0 (hC : VOk C cc nL own) (hR : RegOk HP D ac ad (knX S) Ex) (hK : KK D ac (vS C)) (hb : isFactA S b) {index : Nat} (hw : Cond.classLink own index RX12 ∈ lw_all) (d : decode cc pc = .ok (.instanceof index, 3)) (k : VV C nL HP Qf (μ, z) (pc + 3) lv (.int (if S.2.1 b = 0 then 1 else 0) :: st)) : VV C nL HP Qf (μ, z) pc lv (.ref (ad b) :: st) := by
  obtain ⟨h1, h2⟩ := hb.to
  have h3 := kx_fact h1
  refine fact4 h2 (fun e => ?_) (fun e => ?_) (fun e => ?_) (fun e => ?_) <;> rw [e] at h3 k
  · exact vv_instS hC hR hK h3 (Cn := RX12) rfl hw d k
  · exact vv_instN hC hR hK h3 (Cn := RX13) rfl hw (by unfold kxN; simp) d k
  · exact vv_instN hC hR hK h3 (Cn := RX14) rfl hw (by unfold kxN; simp) d k
  · exact vv_instN hC hR hK h3 (Cn := RX15) rfl hw (by unfold kxN; simp) d k
theorem xx_inst1 (hC : VOk C cc nL own) (hR : RegOk HP D ac ad (knX S) Ex) (hK : KK D ac (vS C)) (hb : isFactA S b) {index : Nat} (hw : Cond.classLink own index RX13 ∈ lw_all) (d : decode cc pc = .ok (.instanceof index, 3)) (k : VV C nL HP Qf (μ, z) (pc + 3) lv (.int (if S.2.1 b = 1 then 1 else 0) :: st)) : VV C nL HP Qf (μ, z) pc lv (.ref (ad b) :: st) := by
  obtain ⟨h1, h2⟩ := hb.to
  have h3 := kx_fact h1
  refine fact4 h2 (fun e => ?_) (fun e => ?_) (fun e => ?_) (fun e => ?_) <;> rw [e] at h3 k
  · exact vv_instN hC hR hK h3 (Cn := RX12) rfl hw (by unfold kxN; simp) d k
  · exact vv_instS hC hR hK h3 (Cn := RX13) rfl hw d k
  · exact vv_instN hC hR hK h3 (Cn := RX14) rfl hw (by unfold kxN; simp) d k
  · exact vv_instN hC hR hK h3 (Cn := RX15) rfl hw (by unfold kxN; simp) d k
theorem xx_inst2 (hC : VOk C cc nL own) (hR : RegOk HP D ac ad (knX S) Ex) (hK : KK D ac (vS C)) (hb : isFactA S b) {index : Nat} (hw : Cond.classLink own index RX14 ∈ lw_all) (d : decode cc pc = .ok (.instanceof index, 3)) (k : VV C nL HP Qf (μ, z) (pc + 3) lv (.int (if S.2.1 b = 2 then 1 else 0) :: st)) : VV C nL HP Qf (μ, z) pc lv (.ref (ad b) :: st) := by
  obtain ⟨h1, h2⟩ := hb.to
  have h3 := kx_fact h1
  refine fact4 h2 (fun e => ?_) (fun e => ?_) (fun e => ?_) (fun e => ?_) <;> rw [e] at h3 k
  · exact vv_instN hC hR hK h3 (Cn := RX12) rfl hw (by unfold kxN; simp) d k
  · exact vv_instN hC hR hK h3 (Cn := RX13) rfl hw (by unfold kxN; simp) d k
  · exact vv_instS hC hR hK h3 (Cn := RX14) rfl hw d k
  · exact vv_instN hC hR hK h3 (Cn := RX15) rfl hw (by unfold kxN; simp) d k
theorem xx_inst3 (hC : VOk C cc nL own) (hR : RegOk HP D ac ad (knX S) Ex) (hK : KK D ac (vS C)) (hb : isFactA S b) {index : Nat} (hw : Cond.classLink own index RX15 ∈ lw_all) (d : decode cc pc = .ok (.instanceof index, 3)) (k : VV C nL HP Qf (μ, z) (pc + 3) lv (.int (if S.2.1 b = 3 then 1 else 0) :: st)) : VV C nL HP Qf (μ, z) pc lv (.ref (ad b) :: st) := by
  obtain ⟨h1, h2⟩ := hb.to
  have h3 := kx_fact h1
  refine fact4 h2 (fun e => ?_) (fun e => ?_) (fun e => ?_) (fun e => ?_) <;> rw [e] at h3 k
  · exact vv_instN hC hR hK h3 (Cn := RX12) rfl hw (by unfold kxN; simp) d k
  · exact vv_instN hC hR hK h3 (Cn := RX13) rfl hw (by unfold kxN; simp) d k
  · exact vv_instN hC hR hK h3 (Cn := RX14) rfl hw (by unfold kxN; simp) d k
  · exact vv_instS hC hR hK h3 (Cn := RX15) rfl hw d k
end Facts
