/-! what lies outside the region SealCasts and is kept: the nodes of the hands -/
set_option maxRecDepth 10000
def isNodeR (S : XS) (n : Nat) : Prop := ∃ h, h < S.2.2.2.1 ∧ h < 4 ∧ (n = 170 + 2 * h ∨ n = 171 + 2 * h)
def ExX (D : va_G) (ac : Nat → ClassId) (ad : Nat → Nat) (S : XS) : Heap → Prop := fun H => ∀ n, isNodeR S n → nodeX D ac ad S 1700 (ad n) (S.2.2.2.2.2 n) H
theorem exX_ok {D : va_G} {ac : Nat → ClassId} {ad : Nat → Nat} {S : XS} : ExOk ad (knX S) (ExX D ac ad S) := fun H H' hs ho h n hn => nodeX.ok H H' hs ho (h n hn)
