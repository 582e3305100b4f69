/-! PLAIN 56: the component's reader: wholeAt -/
set_option maxRecDepth 100000
/-- a state out of an answer: the token it stands at, what went wrong -/
def rsE (t : Tkn) : Except Er Tkn → Er
  | .ok _ => (0, 0)
  | .error e => e
theorem k_wholeAt {m : fk_M} {r tp : Nat} {T : Int → Int} {n lo hi : Int} {t : Tkn} {e : Er} (hT : Tx8 T n) (h : RS m r tp n t e) (ht : isT T n t) (hl : rg lo) (hh : rg hi) : ∃ m', f_X3_wholeAt (some r) (ii lo) (ii hi) m = some (ii t.2.2.2.1, m') ∧ RS m' r tp n t (if t.1 = 3 then (if lo ≤ t.2.2.2.1 ∧ t.2.2.2.1 ≤ hi then e else er1 e 4 t.2.1) else er1 e 1 t.2.1) ∧ ∀ q, q ≠ r → m' q = m q := by
  have hok := ht.ok hT
  have hr := hok.2.2.1
  have hv := hok.2.2.2.2.2.2
  have hj : ∀ {m' : fk_M} {e' : Er}, RS m' r tp n t e' → f_X3_wholeAt_J39 (some r) m' = some (ii t.2.2.2.1, m') := fun {m' e'} h' => by
    obtain ⟨z, hR, hC, hK⟩ := h'
    unfold f_X3_wholeAt_J39
    rw [hR.tk.1, Option.bind_some, hK.at.2.2.2.1, Option.bind_some]
  obtain ⟨z, hR, hC, hK⟩ := id h
  unfold f_X3_wholeAt
  rw [hR.tk.1, Option.bind_some, hK.at.2.1, Option.bind_some]
  by_cases h3 : t.1 = 3
  · rw [if_pos h3, if_pos (show ii t.1 = 3 by rw [h3]; rfl), Option.bind_some, hK.at.2.2.2.1, Option.bind_some, k_in m (by omega) hl hh, Option.bind_some]
    by_cases hc : lo ≤ t.2.2.2.1 ∧ t.2.2.2.1 ≤ hi
    · rw [if_pos hc, if_pos hc, if_neg (show ¬ ii 1 = 0 by decide), hj h]
      exact ⟨m, rfl, h, fun _ _ => rfl⟩
    · obtain ⟨m', g1, g2, g3⟩ := k_wrong h (k := 4) (by omega)
      rw [if_neg hc, if_neg hc, if_pos (show ii 0 = 0 from rfl), hR.o, Option.bind_some, show (4 : Int32) = ii 4 from rfl, g1, Option.bind_some, hj g2]
      exact ⟨m', rfl, g2, g3⟩
  · obtain ⟨m', g1, g2, g3⟩ := k_wrong h (k := 1) (by omega)
    rw [if_neg h3, if_neg (show ¬ ii t.1 = 3 by rw [show (3 : Int32) = ii 3 from rfl, ii_eq (by omega) (by omega)]; exact h3), hR.o, Option.bind_some, show (1 : Int32) = ii 1 from rfl, g1, Option.bind_some, hj g2]
    exact ⟨m', rfl, g2, g3⟩
