/-! PLAIN 64: the component's reader: known -/
set_option maxRecDepth 100000
theorem er1_1 {e : Er} {k p : Int} (hk : 1 ≤ k) (he : 0 ≤ e.1) : 1 ≤ (er1 e k p).1 := by
  unfold er1
  split
  · exact hk
  · omega
theorem er1_er1 {e : Er} {k p k' p' : Int} (hk : 1 ≤ k) : er1 (er1 e k p) k' p' = er1 e k p := by
  unfold er1
  by_cases h : e.1 = 0
  · rw [if_pos h]
    show (if k = 0 then (k', p') else (k, p)) = (k, p)
    rw [if_neg (by omega)]
  · rw [if_neg h, if_neg h]
theorem RC.rg {m : fk_M} {r z : Nat} {e : Er} (h : RC m r z e) : 0 ≤ e.1 ∧ e.1 ≤ 6 := by
  obtain ⟨V, -, -, -, -, -, -, h⟩ := h
  exact h
/-- only the Reader and hashes change -/
def Hr (r : Nat) (m m' : fk_M) : Prop := (∀ q, q ≠ r → m' q = m q ∨ ∃ V V', m q = some (true, oB 16 V) ∧ m' q = some (true, oB 16 V')) ∧ ∀ q w, StC m q w → StC m' q w
theorem k_known15 {m : fk_M} {r tp l4 e4 : Nat} {n : Int} {t : Tkn} {e : Er} {φ ψ : Int → Int} {q : Int → Nat} (g : Nat → Nat) (h : RS m r tp n t e) (h8 : Tok8 n t) (hF : FI φ ψ) (hP : PN m (r + 2) l4 e4 φ q) {e' : Er} (he' : e' = if 0 ≤ fnd φ t.2.2.2.2 then e else er1 e 2 t.2.1) : ∃ m', f_X3_known_J15 g (some r) m = some (if e'.1 = 0 then ii (fnd φ t.2.2.2.2) else 0, m') ∧ RS m' r tp n t e' ∧ ∀ j, j ≠ r → m' j = m j := by
  obtain ⟨z, hR, hC, hK⟩ := id h
  obtain ⟨k1, k2, k3, k4, s, k5, k6⟩ := hK.at
  have hr := fnd_rg φ t.2.2.2.2
  have hpo : isO m (some (r + 2)) 4 = some () := by
    obtain ⟨⟨V, v1, -⟩, -⟩ := hP
    exact isO_of v1
  unfold f_X3_known_J15
  rw [hR.tk.2.2, Option.bind_some, hR.tk.1, Option.bind_some, k5, Option.bind_some, hpo, Option.bind_some, k_find hF hP k6 h8.2.2.2.2.1, Option.bind_some]
  have hj : ∀ {m' : fk_M} {e1 : Er}, RS m' r tp n t e1 → f_X3_known_J40 g (some r) (ii (fnd φ t.2.2.2.2)) m' = some (if e1.1 = 0 then ii (fnd φ t.2.2.2.2) else 0, m') := fun {m' e1} h' => by
    obtain ⟨z', hR', -⟩ := h'
    unfold f_X3_known_J40
    rw [hR'.o, Option.bind_some, hR'.ov, Option.bind_some]
    by_cases hc : e1.1 = 0
    · rw [if_pos hc, if_pos hc, if_pos rfl]
    · rw [if_neg hc, if_neg hc, if_neg (by decide)]
  by_cases h0 : 0 ≤ fnd φ t.2.2.2.2
  · rw [if_pos h0] at he'
    subst he'
    rw [if_neg (show ¬ ii (fnd φ t.2.2.2.2) = -1 by rw [show (-1 : Int32) = ii (-1) from rfl, ii_eq (by omega) (by omega)]; omega), hj h]
    exact ⟨m, rfl, h, fun _ _ => rfl⟩
  · rw [if_neg h0] at he'
    subst he'
    obtain ⟨m', g1, g2, g3⟩ := k_wrong h (k := 2) (by omega)
    rw [if_pos (show ii (fnd φ t.2.2.2.2) = -1 by rw [show fnd φ t.2.2.2.2 = -1 by omega]; rfl), hR.o, Option.bind_some, show (2 : Int32) = ii 2 from rfl, g1, Option.bind_some, hj g2]
    exact ⟨m', rfl, g2, g3⟩
