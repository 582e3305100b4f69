/-! PLAIN 60: the component's reader: finding a name -/
set_option maxRecDepth 100000
/-- the pairs' list and names -/
def PN (m : fk_M) (pa l4 e4 : Nat) (φ : Int → Int) (q : Int → Nat) : Prop := (∃ V, m pa = some (true, oB 4 V) ∧ V 4 = tR (some l4)) ∧ (∃ V w c gl, m l4 = some (true, oB 14 V) ∧ V 1 = tR (some e4) ∧ V 2 = tI (ii (φ 2)) ∧ m e4 = some (w, aQ c gl) ∧ φ 2 ≤ (c : Int) ∧ ∀ p : Int, 0 ≤ p → p < φ 2 → gl p.toNat = some (q p)) ∧ ∀ p : Int, 0 ≤ p → p < φ 2 → ∃ W s wd, m (q p) = some (true, oB 6 W) ∧ W 0 = tR (some s) ∧ StC m s wd ∧ Lt wd ∧ 1 ≤ wd.length ∧ φ (50 + p) = (wd.length : Int) ∧ ∀ i : Nat, i < wd.length → φ (55 + 8 * p + (i : Int)) = wd.getD i 0
theorem nmAt_iff {φ : Int → Int} {w wd : List Int} {p : Int} (h1 : 1 ≤ wd.length) (h2 : φ (50 + p) = (wd.length : Int)) (h3 : ∀ i : Nat, i < wd.length → φ (55 + 8 * p + (i : Int)) = wd.getD i 0) : nmAt φ w p ↔ wd = w := by
  constructor
  · rintro ⟨⟨g1, g2⟩, g3⟩
    have hl : wd.length = w.length := by omega
    exact w_eq.mpr ⟨hl, fun i hi => by rw [← h3 i hi, g3 i (by omega)]⟩
  · rintro rfl
    exact ⟨⟨by omega, h2⟩, h3⟩
