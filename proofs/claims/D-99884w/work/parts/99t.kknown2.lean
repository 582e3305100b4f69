/-! PLAIN 63: the component's reader: a name that is known, whole -/
set_option maxRecDepth 100000
theorem PN.r {m m' : fk_M} {r pa l4 e4 z : Nat} {e : Er} {φ : Int → Int} {q : Int → Nat} (h : PN m pa l4 e4 φ q) (hR : RC m r z e) (hk : ∀ j, j ≠ r → m' j = m j) : PN m' pa l4 e4 φ q := by
  obtain ⟨R, r1, -⟩ := hR
  obtain ⟨⟨V, v1, v2⟩, ⟨V4, w4, c4, gl, a1, a2, a3, a4, a5, a6⟩, hp⟩ := h
  have ho : ∀ {j ci : Nat} {w : Bool} {V : Nat → fk_T}, m j = some (w, oB ci V) → ci ≠ 2 → m' j = some (w, oB ci V) := fun {j ci w V} hj hc => (hk j (fun e' => by rw [e', r1] at hj; cases hj; exact hc rfl)).trans hj
  refine ⟨⟨V, ho v1 (by decide), v2⟩, ⟨V4, w4, c4, gl, ho a1 (by decide), a2, a3, (hk e4 (fun e' => by rw [e', r1] at a4; cases a4)).trans a4, a5, a6⟩, fun p p0 p1 => ?_⟩
  obtain ⟨W, s, wd, b1, b2, b3, b4⟩ := hp p p0 p1
  refine ⟨W, s, wd, ho b1 (by decide), b2, b3.cg2 (fun q' hq' => hk q' (fun e' => ?_)), b4⟩
  rw [e', r1] at hq'
  rcases hq' with ⟨wr, V, h⟩ | ⟨w, L, gg, h⟩
  · cases h
  · cases h
/-- the failure after a name was looked up -/
abbrev erK (φ : Int → Int) (t : Tkn) (e : Er) : Er := if isNm t then (if 0 ≤ fnd φ t.2.2.2.2 then e else er1 e 2 t.2.1) else er1 e 1 t.2.1
