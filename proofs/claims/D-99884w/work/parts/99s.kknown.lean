/-! PLAIN 62: the component's reader: a name that is known -/
set_option maxRecDepth 100000
/-- only hashes change -/
def Hz (m m' : fk_M) : Prop := (∀ q, m' q = m q ∨ ∃ V V', m q = some (true, oB 16 V) ∧ m' q = some (true, oB 16 V')) ∧ ∀ q w, StC m q w → StC m' q w
theorem Hz.cell {m m' : fk_M} (h : Hz m m') {q ci : Nat} {w : Bool} {V : Nat → fk_T} (hq : m q = some (w, oB ci V)) (hc : ci ≠ 16) : m' q = some (w, oB ci V) := by
  rcases h.1 q with g | ⟨W, W', g, -⟩
  · exact g.trans hq
  · rw [hq] at g
    cases g
    exact absurd rfl hc
theorem Hz.arr {m m' : fk_M} (h : Hz m m') {q c : Nat} {w : Bool} {gl : Nat → Option Nat} (hq : m q = some (w, aQ c gl)) : m' q = some (w, aQ c gl) := by
  rcases h.1 q with g | ⟨W, W', g, -⟩
  · exact g.trans hq
  · rw [hq] at g
    cases g
theorem RS.hz {m m' : fk_M} {r tp : Nat} {n : Int} {t : Tkn} {e : Er} (h : RS m r tp n t e) (hz : Hz m m') : RS m' r tp n t e := by
  obtain ⟨z, ⟨V, v1, v2⟩, ⟨W, w1, w2⟩, ⟨U, s, u1, u2, u3, u4, u5, u6⟩⟩ := h
  exact ⟨z, ⟨V, hz.cell v1 (by decide), v2⟩, ⟨W, hz.cell w1 (by decide), w2⟩, ⟨U, s, hz.cell u1 (by decide), u2, u3, u4, u5, hz.2 _ _ u6⟩⟩
theorem PN.hz {m m' : fk_M} {pa l4 e4 : Nat} {φ : Int → Int} {q : Int → Nat} (h : PN m pa l4 e4 φ q) (hz : Hz m m') : PN m' pa l4 e4 φ q := by
  obtain ⟨⟨V, v1, v2⟩, ⟨V4, w4, c4, gl, a1, a2, a3, a4, a5, a6⟩, hp⟩ := h
  refine ⟨⟨V, hz.cell v1 (by decide), v2⟩, ⟨V4, w4, c4, gl, hz.cell a1 (by decide), a2, a3, hz.arr a4, a5, a6⟩, fun p p0 p1 => ?_⟩
  obtain ⟨W, s, wd, b1, b2, b3, b4⟩ := hp p p0 p1
  exact ⟨W, s, wd, hz.cell b1 (by decide), b2, hz.2 _ _ b3, b4⟩
