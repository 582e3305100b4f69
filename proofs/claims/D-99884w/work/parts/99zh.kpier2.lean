/-! PLAIN 77: a stage begins; lists are cleared -/
set_option maxRecDepth 100000
theorem k_begins (x : Nat) (F : Nat → Int) (P : Nat → Option Nat) (A : Nat → Int → Int) (f l : Nat → Int) (a : Nat → Int → Int) (b : fk_M) {r sg : Nat} {φ ψ : Int → Int} {q dk : Int → Nat} {du dv : Int → Int} (hF : FI φ ψ) (hS : Sg b (r + 2) sg (fun _ => 0)) (hs : x + 24 ≤ sg) (hd : ∀ k, 0 ≤ k → k < φ 4 → (0 ≤ du k ∧ du k < φ 2) ∧ (0 ≤ dv k ∧ dv k < φ 2)) (hall : ∀ p p', 0 ≤ p → p < 5 → 0 ≤ p' → p' < 5 → 0 < ψ (10 + 5 * p + p') → ∃ k, 0 ≤ k ∧ k < φ 4 ∧ du k = p ∧ dv k = p')
    (hB : ∀ b', (∀ z, z < sg → b' z = b z) → (gR (hp x F P A f l a b') (some (r + 2)) 4 4 = some (some (r + 3)) ∧ gR (hp x F P A f l a b') (some (r + 2)) 4 5 = some (some (r + 4)) ∧ isO (hp x F P A f l a b') (some (r + 3)) 14 = some () ∧ isO (hp x F P A f l a b') (some (r + 4)) 14 = some () ∧ f_J2_size (some (r + 3)) (hp x F P A f l a b') = some (ii (φ 2)) ∧ f_J2_size (some (r + 4)) (hp x F P A f l a b') = some (ii (φ 4))) ∧ (∀ p, 0 ≤ p → p < φ 2 → f_J2_get (some (r + 3)) (ii p) (hp x F P A f l a b') = some (some (q p)) ∧ cst (hp x F P A f l a b') (some (q p)) 6 = some () ∧ gI (hp x F P A f l a b') (some (q p)) 6 2 = some (ii (ψ p)) ∧ gI (hp x F P A f l a b') (some (q p)) 6 3 = some (ii (ψ (5 + p)))) ∧ ∀ k, 0 ≤ k → k < φ 4 → f_J2_get (some (r + 4)) (ii k) (hp x F P A f l a b') = some (some (dk k)) ∧ cst (hp x F P A f l a b') (some (dk k)) 11 = some () ∧ gI (hp x F P A f l a b') (some (dk k)) 11 0 = some (ii (du k)) ∧ gI (hp x F P A f l a b') (some (dk k)) 11 1 = some (ii (dv k)) ∧ gI (hp x F P A f l a b') (some (dk k)) 11 2 = some (ii (ψ (10 + 5 * du k + dv k)))) :
    ∃ b', f_X15_begins (some sg) (hp x F P A f l a b) = some (hp x F P A f l a b') ∧ Sg b' (r + 2) sg ψ ∧ ∀ z, (z < sg ∨ sg + 4 ≤ z) → b' z = b z := by
  have r2 := hF.2.2.2.1
  have r4 := hF.2.2.2.2.2.1
  have r7 : φ 0 ≤ 99 := by
    rcases hF.2.2.1 with hh | hh
    · omega
    · omega
  have r9 := hF.2.2.2.2.2.2.2.2.1
  have r10 := hF.2.2.2.2.2.2.2.2.2.1
  have r11 := hF.2.2.2.2.2.2.2.2.2.2.1
  have r15 : ψ 35 = 0 := hF.2.2.2.2.2.2.2.2.2.2.2.2.2.2
  -- the stage's own cell
  have hg : ∀ {y : fk_M} {R : Int → Int}, Sg y (r + 2) sg R → gR (hp x F P A f l a y) (some sg) 13 0 = some (some (r + 2)) ∧ gR (hp x F P A f l a y) (some sg) 13 1 = some (some (sg + 1)) ∧ gR (hp x F P A f l a y) (some sg) 13 2 = some (some (sg + 2)) ∧ gR (hp x F P A f l a y) (some sg) 13 3 = some (some (sg + 3)) := fun {y R} h => by
    obtain ⟨⟨V, h1, h2, h3, h4, h5, -⟩, -⟩ := h
    have h1' : hp x F P A f l a y sg = some (true, oB 13 V) := (hp_out _ _ _ _ _ _ _ _ (Or.inr hs)).trans h1
    exact ⟨gR_of h1' h2, gR_of h1' h3, gR_of h1' h4, gR_of h1' h5⟩
  obtain ⟨b0, s1, s2, s3⟩ := st_wG (x := x) hS hs 0
  unfold f_X15_begins
  rw [show (0 : Int32) = ii 0 from rfl, s1, Option.bind_some]
  have hL := loop_ex (fun N (_ : Unit) p (y : fk_M) => f_X15_begins_L7 (some sg) N (ii p) (hp x F P A f l a y)) (fun u _ => u) (fun _ y => f_X15_begins_L77 (some sg) fk_fuel (ii 0) (hp x F P A f l a y)) (fun _ p y => (∃ R, Sg y (r + 2) sg R ∧ (∀ t, 0 ≤ t → t < 5 → (t < p → R t = ψ t ∧ R (5 + t) = ψ (5 + t)) ∧ (p ≤ t → R t = 0 ∧ R (5 + t) = 0)) ∧ ∀ t, 10 ≤ t → t < 36 → R t = 0) ∧ ∀ z, (z < sg ∨ sg + 4 ≤ z) → y z = b z) (lo := 0) (hi := φ 2) ?_ ?_ (φ 2).toNat fk_fuel () 0 b0 (by omega) (by omega) (by unfold fk_fuel; omega) ⟨⟨_, s2, fun t t0 t1 => ⟨fun h => by omega, fun _ => ⟨?_, ?_⟩⟩, fun t t0 t1 => ?_⟩, s3⟩
  · obtain ⟨y, k1, ⟨R, k2, k3, k4⟩, k5⟩ := hL
    try dsimp only at k1
    rw [k1]
    have hL2 := loop_ex (fun N (_ : Unit) k (y : fk_M) => f_X15_begins_L77 (some sg) N (ii k) (hp x F P A f l a y)) (fun u _ => u) (fun _ y => some (hp x F P A f l a y)) (fun _ k y => (∃ R, Sg y (r + 2) sg R ∧ (∀ t, 0 ≤ t → t < 10 → R t = ψ t) ∧ (∀ t, 10 ≤ t → t < 35 → R t = ψ t ∨ R t = 0) ∧ R 35 = 0 ∧ ∀ j, 0 ≤ j → j < k → R (10 + 5 * du j + dv j) = ψ (10 + 5 * du j + dv j)) ∧ ∀ z, (z < sg ∨ sg + 4 ≤ z) → y z = b z) (lo := 0) (hi := φ 4) ?_ ?_ (φ 4).toNat fk_fuel () 0 y (by omega) (by omega) (by unfold fk_fuel; omega) ⟨⟨R, k2, fun t t0 t1 => ?_, fun t t0 t1 => Or.inr (k4 t t0 (by omega)), k4 35 (by omega) (by omega), fun j j0 j1 => by omega⟩, k5⟩
    · obtain ⟨y2, n1, ⟨R2, n2, n3, n4, n5, n6⟩, n7⟩ := hL2
      try dsimp only at n1
      rw [n1]
      refine ⟨y2, rfl, n2.cg (fun _ _ _ => rfl) (fun t t0 t1 => ?_), n7⟩
      by_cases h10 : t < 10
      · exact (n3 t t0 h10).symm
      · by_cases h35 : t = 35
        · rw [h35, n5, r15]
        · rcases n4 t (by omega) (by omega) with hh | hh
          · exact hh.symm
          · obtain ⟨p, p', q0, q1, q2, q3, q4⟩ : ∃ p p' : Int, 0 ≤ p ∧ p < 5 ∧ 0 ≤ p' ∧ p' < 5 ∧ t = 10 + 5 * p + p' := ⟨(t - 10) / 5, (t - 10) % 5, by omega, by omega, by omega, by omega, by omega⟩
            have h11 := r11 p p' q0 q1 q2 q3
            by_cases h0 : 0 < ψ t
            · rw [q4] at h0
              obtain ⟨k, k0, k1', k2', k3'⟩ := hall p p' q0 q1 q2 q3 h0
              have := n6 k k0 k1'
              rw [k2', k3', ← q4] at this
              exact this.symm
            · rw [← q4] at h11
              rw [hh]
              omega
    · rintro N - y2 ⟨⟨R2, n2, -⟩, n7⟩
      obtain ⟨⟨e1, e2, e3, e4, e5, e6⟩, -, -⟩ := hB y2 (fun z hz => n7 z (Or.inl hz))
      try dsimp only
      rw [f_X15_begins_L77, (hg n2).1, Option.bind_some, e2, Option.bind_some, e4, Option.bind_some, e6, Option.bind_some, if_pos (by rw [ii_le (by omega) (by omega)]; omega)]
    · rintro N - k y2 k0 k1' ⟨⟨R2, n2, n3, n4, n5, n6⟩, n7⟩
      obtain ⟨⟨e1, e2, e3, e4, e5, e6⟩, -, e7⟩ := hB y2 (fun z hz => n7 z (Or.inl hz))
      obtain ⟨d1, d2, d3, d4, d5⟩ := e7 k k0 k1'
      obtain ⟨⟨u0, u1'⟩, ⟨v0, v1⟩⟩ := hd k k0 k1'
      have h11 := r11 (du k) (dv k) u0 (by omega) v0 (by omega)
      obtain ⟨y3, w1, w2, w3⟩ := st_wO (x := x) n2 hs (k := 5 * du k + dv k) (by omega) (by omega) (v := ψ (10 + 5 * du k + dv k)) (by omega) (by omega)
      have eb := ii_s (a := ψ (10 + 5 * du k + dv k)) (by omega) (by omega)
      obtain ⟨g0, g1, g2, g3⟩ := hg n2
      have e10 : 10 + (5 * du k + dv k) = 10 + 5 * du k + dv k := by omega
      rw [e10] at w2
      refine ⟨y3, ⟨⟨_, w2, fun t t0 t1 => ?_, fun t t0 t1 => ?_, ?_, fun j j0 j1 => ?_⟩, fun z hz => (w3 z hz).trans (n7 z hz)⟩, ?_⟩
      · rw [su1_n _ _ (by omega)]
        exact n3 t t0 t1
      · by_cases ht : t = 10 + 5 * du k + dv k
        · rw [ht, su1_e]
          exact Or.inl rfl
        · rw [su1_n _ _ ht]
          exact n4 t t0 t1
      · rw [su1_n _ _ (by omega)]
        exact n5
      · by_cases ht : 10 + 5 * du j + dv j = 10 + 5 * du k + dv k
        · rw [ht, su1_e]
        · rw [su1_n _ _ ht]
          by_cases hjk : j = k
          · rw [hjk] at ht
            exact absurd rfl ht
          · exact n6 j j0 (by omega)
      · try dsimp only
        have e5' : (5 : Int32) * ii (du k) + ii (dv k) = ii (5 * du k + dv k) := by rw [show (5 : Int32) = ii 5 from rfl, ii_mul, ii_add]
        rw [f_X15_begins_L77]
        simp only [g0, g3, e2, e4, e6, d1, d2, d3, d4, d5, Option.bind_some]
        rw [if_neg (by rw [ii_le (by omega) (by omega)]; omega), e5', eb, w1, Option.bind_some, show (1 : Int32) = ii 1 from rfl, ii_add]
    · have h5 : t < 5 ∨ (5 ≤ t ∧ t < 10) := by omega
      rcases h5 with h5 | h5
      · by_cases hp : t < φ 2
        · exact ((k3 t t0 h5).1 hp).1
        · rw [((k3 t t0 h5).2 (by omega)).1, (r10 t (by omega) h5).2.2.1]
      · have e : t = 5 + (t - 5) := by omega
        rw [e]
        by_cases hp : t - 5 < φ 2
        · exact ((k3 (t - 5) (by omega) (by omega)).1 hp).2
        · rw [((k3 (t - 5) (by omega) (by omega)).2 (by omega)).2, (r10 (t - 5) (by omega) (by omega)).2.2.2]
  · rintro N - y ⟨⟨R2, n2, -⟩, n7⟩
    obtain ⟨⟨e1, e2, e3, e4, e5, e6⟩, -, -⟩ := hB y (fun z hz => n7 z (Or.inl hz))
    try dsimp only
    rw [f_X15_begins_L7, (hg n2).1, Option.bind_some, e1, Option.bind_some, e3, Option.bind_some, e5, Option.bind_some, if_pos (by rw [ii_le (by omega) (by omega)]; omega)]
    rfl
  · rintro N - p y p0 p1 ⟨⟨R2, n2, n3, n4⟩, n7⟩
    obtain ⟨⟨e1, e2, e3, e4, e5, e6⟩, e7, -⟩ := hB y (fun z hz => n7 z (Or.inl hz))
    obtain ⟨d1, d2, d3, d4⟩ := e7 p p0 p1
    have h9 := r9 p p0 p1
    obtain ⟨y2, w1, w2, w3⟩ := st_wS (x := x) n2 hs p0 (by omega) (v := ψ p) (by omega) (by omega)
    obtain ⟨⟨f1, f2, f3, f4, f5, f6⟩, f7, -⟩ := hB y2 (fun z hz => (w3 z (Or.inl hz)).trans (n7 z (Or.inl hz)))
    obtain ⟨i1, i2, i3, i4⟩ := f7 p p0 p1
    obtain ⟨y3, z1, z2, z3⟩ := st_wT (x := x) w2 hs p0 (by omega) (v := ψ (5 + p)) (by omega) (by omega)
    have eb := ii_b (a := ψ p) (by omega) (by omega)
    have eb2 := ii_b (a := ψ (5 + p)) (by omega) (by omega)
    obtain ⟨g0, g1, g2, g3⟩ := hg n2
    obtain ⟨j0, j1, j2, j3⟩ := hg w2
    refine ⟨y3, ⟨⟨_, z2, fun t t0 t1 => ⟨fun ht => ?_, fun ht => ?_⟩, fun t t0 t1 => ?_⟩, fun z hz => (z3 z hz).trans ((w3 z hz).trans (n7 z hz))⟩, ?_⟩
    · by_cases hpt : t = p
      · subst hpt
        exact ⟨by rw [su1_n _ _ (by omega), su1_e], by rw [su1_e]⟩
      · have := ((n3 t t0 t1).1 (by omega))
        exact ⟨by rw [su1_n _ _ (by omega), su1_n _ _ (by omega)]; exact this.1, by rw [su1_n _ _ (by omega), su1_n _ _ (by omega)]; exact this.2⟩
    · have := ((n3 t t0 t1).2 (by omega))
      exact ⟨by rw [su1_n _ _ (by omega), su1_n _ _ (by omega)]; exact this.1, by rw [su1_n _ _ (by omega), su1_n _ _ (by omega)]; exact this.2⟩
    · rw [su1_n _ _ (by omega), su1_n _ _ (by omega)]
      exact n4 t t0 t1
    · try dsimp only
      rw [f_X15_begins_L7]
      simp only [g0, g1, e1, e3, e5, d1, d2, d3, Option.bind_some]
      rw [if_neg (by rw [ii_le (by omega) (by omega)]; omega), eb, w1, Option.bind_some]
      simp only [j0, j2, f1, f3, i1, i2, i4, Option.bind_some]
      rw [eb2, z1, Option.bind_some, show (1 : Int32) = ii 1 from rfl, ii_add]
  · rw [su1_n _ _ (by omega)]
  · rw [su1_n _ _ (by omega)]
  · by_cases h35 : t = 35
    · rw [h35, su1_e]
    · rw [su1_n _ _ h35]
theorem k_clear2 (x : Nat) (F : Nat → Int) (P : Nat → Option Nat) (A : Nat → Int → Int) (f l : Nat → Int) (a : Nat → Int → Int) (b : fk_M) {g : Nat → Nat} {u ep cp : Nat} {gp : Nat → Option Nat} (h101 : F 101 = u) (p100 : P 100 = some ep) (hL : Lk b (g 40) x u ep cp gp) : ∃ b2 gl', f_J2_clear (some (x + 2)) (hp x F P A f l a b) = some (hp x (u1 (u1 F 100 (F 100 + 1)) 101 0) P A f l a b2) ∧ (∀ q, q ≠ ep → b2 q = b q) ∧ (cp = 0 → b2 = b) ∧ Lk b2 (g 40) x 0 ep cp gl' := by
  have e2 : (hp x F P A f l a b) = hp x (u1 (u1 F 100 (F 100)) 101 (u : Int)) (uP P 100 (some ep)) A f l a b := by
    rw [u1_self (F := F) (k := 100) rfl, u1_self h101, uP_self p100]
  rcases hL with ⟨h2, h3, h4, w, h5⟩ | ⟨h2, h3, h4, h5⟩
  · subst h4
    have hcl := (LH2 x F P A f l a b).clear0 (c := F 100) (some ep) b
    have hcl : f_J2_clear (some (x + 2)) (hp x (u1 (u1 F 100 (F 100)) 101 0) (uP P 100 (some ep)) A f l a b) = some (hp x (u1 (u1 F 100 (F 100 + 1)) 101 0) (uP P 100 (some ep)) A f l a b) := hcl
    have e2' : (hp x F P A f l a b) = hp x (u1 (u1 F 100 (F 100)) 101 0) (uP P 100 (some ep)) A f l a b := e2
    rw [← e2', uP_self p100] at hcl
    exact ⟨b, gp, hcl, fun _ _ => rfl, fun _ => rfl, Or.inl ⟨h2, h3, rfl, w, h5⟩⟩
  · obtain ⟨gl', hcl⟩ := (LH2 x F P A f l a b).clear (c := F 100) h5 (Or.inr h3) h4 (by omega)
    have hcl : f_J2_clear (some (x + 2)) (hp x (u1 (u1 F 100 (F 100)) 101 (u : Int)) (uP P 100 (some ep)) A f l a b) = some (hp x (u1 (u1 F 100 (F 100 + 1)) 101 0) (uP P 100 (some ep)) A f l a (fk_up b ep (aQ cp gl'))) := hcl
    rw [← e2, uP_self p100] at hcl
    exact ⟨_, gl', hcl, fun q hq => up_ne _ _ hq, fun h => by omega, Or.inr ⟨h2, h3, by omega, up_eq ..⟩⟩
theorem k_clear3 (x : Nat) (F : Nat → Int) (P : Nat → Option Nat) (A : Nat → Int → Int) (f l : Nat → Int) (a : Nat → Int → Int) (b : fk_M) {g : Nat → Nat} {u ep cp : Nat} {gp : Nat → Option Nat} (h101 : F 111 = u) (p100 : P 110 = some ep) (hL : Lk b (g 40) x u ep cp gp) : ∃ b2 gl', f_J2_clear (some (x + 3)) (hp x F P A f l a b) = some (hp x (u1 (u1 F 110 (F 110 + 1)) 111 0) P A f l a b2) ∧ (∀ q, q ≠ ep → b2 q = b q) ∧ (cp = 0 → b2 = b) ∧ Lk b2 (g 40) x 0 ep cp gl' := by
  have e2 : (hp x F P A f l a b) = hp x (u1 (u1 F 110 (F 110)) 111 (u : Int)) (uP P 110 (some ep)) A f l a b := by
    rw [u1_self (F := F) (k := 110) rfl, u1_self h101, uP_self p100]
  rcases hL with ⟨h2, h3, h4, w, h5⟩ | ⟨h2, h3, h4, h5⟩
  · subst h4
    have hcl := (LH3 x F P A f l a b).clear0 (c := F 110) (some ep) b
    have hcl : f_J2_clear (some (x + 3)) (hp x (u1 (u1 F 110 (F 110)) 111 0) (uP P 110 (some ep)) A f l a b) = some (hp x (u1 (u1 F 110 (F 110 + 1)) 111 0) (uP P 110 (some ep)) A f l a b) := hcl
    have e2' : (hp x F P A f l a b) = hp x (u1 (u1 F 110 (F 110)) 111 0) (uP P 110 (some ep)) A f l a b := e2
    rw [← e2', uP_self p100] at hcl
    exact ⟨b, gp, hcl, fun _ _ => rfl, fun _ => rfl, Or.inl ⟨h2, h3, rfl, w, h5⟩⟩
  · obtain ⟨gl', hcl⟩ := (LH3 x F P A f l a b).clear (c := F 110) h5 (Or.inr h3) h4 (by omega)
    have hcl : f_J2_clear (some (x + 3)) (hp x (u1 (u1 F 110 (F 110)) 111 (u : Int)) (uP P 110 (some ep)) A f l a b) = some (hp x (u1 (u1 F 110 (F 110 + 1)) 111 0) (uP P 110 (some ep)) A f l a (fk_up b ep (aQ cp gl'))) := hcl
    rw [← e2, uP_self p100] at hcl
    exact ⟨_, gl', hcl, fun q hq => up_ne _ _ hq, fun h => by omega, Or.inr ⟨h2, h3, by omega, up_eq ..⟩⟩
