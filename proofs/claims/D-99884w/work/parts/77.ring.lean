/-! PLAIN 23: rings of debts: walks, masks, the component -/
set_option maxRecDepth 100000
theorem z_orr : ∀ s t : Fin 32, ii (s.val : Int) ||| ii (t.val : Int) = ii ((s.val ||| t.val : Nat) : Int) ∧ (s.val ||| t.val) < 32 ∧ ∀ p : Fin 5, (hb ((s.val ||| t.val : Nat) : Int) (p.val : Int) ↔ hb (s.val : Int) (p.val : Int) ∨ hb (t.val : Int) (p.val : Int)) := by decide +kernel
theorem z_one : ∀ p : Fin 5, i_shl 1 (ii (p.val : Int)) = ii ((2 ^ p.val : Nat) : Int) ∧ 2 ^ p.val < 32 ∧ bc (2 ^ p.val) = 1 ∧ ∀ r : Fin 5, (hb ((2 ^ p.val : Nat) : Int) (r.val : Int) ↔ r = p) := by decide +kernel
theorem z_add : ∀ s : Fin 32, ∀ p : Fin 5, ¬ hb (s.val : Int) (p.val : Int) → ii (s.val : Int) ||| i_shl 1 (ii (p.val : Int)) = ii ((s.val ||| 2 ^ p.val : Nat) : Int) ∧ bc (s.val ||| 2 ^ p.val) = bc s.val + 1 ∧ (s.val ||| 2 ^ p.val) < 32 ∧ ∀ r : Fin 5, (hb ((s.val ||| 2 ^ p.val : Nat) : Int) (r.val : Int) ↔ hb (s.val : Int) (r.val : Int) ∨ r = p) := by decide +kernel
theorem y_orr {s t : Nat} (hs : s < 32) (ht : t < 32) : ii (s : Int) ||| ii (t : Int) = ii ((s ||| t : Nat) : Int) ∧ (s ||| t) < 32 ∧ ∀ p : Int, 0 ≤ p → p < 5 → (hb ((s ||| t : Nat) : Int) p ↔ hb (s : Int) p ∨ hb (t : Int) p) := by
  obtain ⟨h1, h2, h3⟩ := z_orr ⟨s, hs⟩ ⟨t, ht⟩
  refine ⟨h1, h2, fun p p0 p1 => ?_⟩
  obtain ⟨k, rfl⟩ : ∃ k : Nat, p = k := ⟨p.toNat, by omega⟩
  exact h3 ⟨k, by omega⟩
theorem y_one {p : Int} (p0 : 0 ≤ p) (p1 : p < 5) : i_shl 1 (ii p) = ii ((2 ^ p.toNat : Nat) : Int) ∧ 2 ^ p.toNat < 32 ∧ bc (2 ^ p.toNat) = 1 ∧ ∀ r : Int, 0 ≤ r → r < 5 → (hb ((2 ^ p.toNat : Nat) : Int) r ↔ r = p) := by
  obtain ⟨k, rfl⟩ : ∃ k : Nat, p = k := ⟨p.toNat, by omega⟩
  obtain ⟨h1, h2, h3, h4⟩ := z_one ⟨k, by omega⟩
  refine ⟨h1, h2, h3, fun r r0 r1 => ?_⟩
  obtain ⟨j, rfl⟩ : ∃ j : Nat, r = j := ⟨r.toNat, by omega⟩
  have := h4 ⟨j, by omega⟩
  refine this.trans ⟨fun h => by rw [Fin.mk.inj h], fun h => by
    have : j = k := by omega
    subst this
    rfl⟩
theorem y_add {s : Nat} {p : Int} (hs : s < 32) (p0 : 0 ≤ p) (p1 : p < 5) (hn : ¬ hb (s : Int) p) : ii (s : Int) ||| i_shl 1 (ii p) = ii ((s ||| 2 ^ p.toNat : Nat) : Int) ∧ bc (s ||| 2 ^ p.toNat) = bc s + 1 ∧ (s ||| 2 ^ p.toNat) < 32 ∧ ∀ r : Int, 0 ≤ r → r < 5 → (hb ((s ||| 2 ^ p.toNat : Nat) : Int) r ↔ hb (s : Int) r ∨ r = p) := by
  obtain ⟨k, rfl⟩ : ∃ k : Nat, p = k := ⟨p.toNat, by omega⟩
  obtain ⟨h1, h2, h3, h4⟩ := z_add ⟨s, hs⟩ ⟨k, by omega⟩ hn
  refine ⟨h1, h2, h3, fun r r0 r1 => ?_⟩
  obtain ⟨j, rfl⟩ : ∃ j : Nat, r = j := ⟨r.toNat, by omega⟩
  have := h4 ⟨j, by omega⟩
  refine this.trans ⟨fun h => h.elim Or.inl (fun h => Or.inr (by rw [Fin.mk.inj h])), fun h => h.elim Or.inl (fun h => Or.inr (by
    have : j = k := by omega
    subst this
    rfl))⟩
/-- a debt from one to another -/
def Ed (ρ σ : Int → Int) (p q : Int) : Prop := (0 ≤ q ∧ q < ρ 2) ∧ σ (10 + 5 * p + q) ≠ 0
/-- so many debts from one to another -/
def wk (ρ σ : Int → Int) : Nat → Int → Int → Prop
  | 0, p, q => p = q
  | k + 1, p, q => ∃ r, Ed ρ σ p r ∧ wk ρ σ k r q
theorem wk_end {ρ σ : Int → Int} : ∀ (k : Nat) (p q : Int), wk ρ σ (k + 1) p q ↔ ∃ r, wk ρ σ k p r ∧ Ed ρ σ r q := by
  intro k
  induction k with
  | zero =>
    intro p q
    constructor
    · rintro ⟨r, h1, h2⟩
      have h2 : r = q := h2
      subst h2
      exact ⟨p, rfl, h1⟩
    · rintro ⟨r, h1, h2⟩
      have h1 : p = r := h1
      subst h1
      exact ⟨q, h2, rfl⟩
  | succ k ih =>
    intro p q
    constructor
    · rintro ⟨r, h1, h2⟩
      obtain ⟨s, h3, h4⟩ := (ih r q).mp h2
      exact ⟨s, ⟨r, h1, h3⟩, h4⟩
    · rintro ⟨r, ⟨s, h1, h2⟩, h3⟩
      exact ⟨s, h1, (ih s q).mpr ⟨r, h2, h3⟩⟩
theorem wk_rg {ρ σ : Int → Int} : ∀ (k : Nat) (p q : Int), wk ρ σ k p q → 0 ≤ p → p < ρ 2 → 0 ≤ q ∧ q < ρ 2 := by
  intro k
  induction k with
  | zero =>
    intro p q h h0 h1
    have h : p = q := h
    subst h
    exact ⟨h0, h1⟩
  | succ k ih =>
    rintro p q ⟨r, h1, h2⟩ _ _
    exact ih r q h2 h1.1.1 h1.1.2
/-- whom one owes, as a mask -/
def ob (ρ σ : Int → Int) (p : Int) : Nat := al (fun q => σ (10 + 5 * p + q)) (ρ 2).toNat
theorem ob_bit {ρ τ σ : Int → Int} (hR : Rg ρ τ σ) (p : Int) : ob ρ σ p < 32 ∧ ∀ q, 0 ≤ q → q < 5 → (hb (ob ρ σ p : Int) q ↔ Ed ρ σ p q) := by
  have hw := hR.wd
  have hn : (ρ 2).toNat ≤ 5 := by omega
  refine ⟨p2_le hn (al_lt _ _), fun q q0 q1 => ?_⟩
  obtain ⟨k, rfl⟩ : ∃ k : Nat, q = k := ⟨q.toNat, by omega⟩
  refine (al_bit (fun q => σ (10 + 5 * p + q)) (ρ 2).toNat hn k (by omega)).trans ⟨fun h => ⟨⟨q0, by omega⟩, h.2⟩, fun h => ⟨by have := h.1.2; omega, h.2⟩⟩
/-- whom all of a mask owe -/
def nx (ρ σ : Int → Int) (s : Nat) : Nat → Nat
  | 0 => 0
  | k + 1 => nx ρ σ s k ||| (if hb (s : Int) (k : Int) then ob ρ σ k else 0)
theorem nx_bit {ρ τ σ : Int → Int} (hR : Rg ρ τ σ) (s : Nat) : ∀ k : Nat, nx ρ σ s k < 32 ∧ ∀ q, 0 ≤ q → q < 5 → (hb (nx ρ σ s k : Int) q ↔ ∃ r : Int, 0 ≤ r ∧ r < k ∧ hb (s : Int) r ∧ Ed ρ σ r q) := by
  intro k
  induction k with
  | zero =>
    refine ⟨(show (0 : Nat) < 32 by omega), fun q q0 q1 => ⟨fun h => ?_, fun ⟨r, h1, h2, _⟩ => by omega⟩⟩
    have := y_hi (n := 0) (s := 0) (by omega) (by decide) q0 q1 h
    omega
  | succ k ih =>
    have h2 : (if hb (s : Int) (k : Int) then ob ρ σ k else 0) < 32 := by
      split
      · exact (ob_bit hR k).1
      · decide
    obtain ⟨o1, o2, o3⟩ := y_orr ih.1 h2
    refine ⟨o2, fun q q0 q1 => (o3 q q0 q1).trans ?_⟩
    rw [ih.2 q q0 q1]
    constructor
    · rintro (⟨r, r0, r1, r2, r3⟩ | h)
      · exact ⟨r, r0, by omega, r2, r3⟩
      · by_cases hc : hb (s : Int) (k : Int)
        · rw [if_pos hc] at h
          exact ⟨k, by omega, by omega, hc, ((ob_bit hR k).2 q q0 q1).mp h⟩
        · rw [if_neg hc] at h
          have := y_hi (n := 0) (s := 0) (by omega) (by decide) q0 q1 h
          omega
    · rintro ⟨r, r0, r1, r2, r3⟩
      by_cases hr : r = k
      · subst hr
        rw [if_pos r2]
        exact Or.inr (((ob_bit hR k).2 q q0 q1).mpr r3)
      · exact Or.inl ⟨r, r0, by omega, r2, r3⟩
/-- whom one comes to by so many debts -/
def ls (ρ σ : Int → Int) (p : Int) : Nat → Nat
  | 0 => 2 ^ p.toNat
  | k + 1 => nx ρ σ (ls ρ σ p k) (ρ 2).toNat
theorem ls_bit {ρ τ σ : Int → Int} (hR : Rg ρ τ σ) {p : Int} (p0 : 0 ≤ p) (p1 : p < ρ 2) : ∀ k : Nat, ls ρ σ p k < 32 ∧ ∀ q, 0 ≤ q → q < 5 → (hb (ls ρ σ p k : Int) q ↔ wk ρ σ k p q) := by
  have hw := hR.wd
  intro k
  induction k with
  | zero =>
    obtain ⟨h1, h2, h3, h4⟩ := y_one p0 (show p < 5 by omega)
    exact ⟨h2, fun q q0 q1 => (h4 q q0 q1).trans ⟨fun h => h.symm, fun h => h.symm⟩⟩
  | succ k ih =>
    obtain ⟨h1, h2⟩ := nx_bit hR (ls ρ σ p k) (ρ 2).toNat
    refine ⟨h1, fun q q0 q1 => (h2 q q0 q1).trans ?_⟩
    rw [wk_end]
    constructor
    · rintro ⟨r, r0, r1, r2, r3⟩
      exact ⟨r, (ih.2 r r0 (by omega)).mp r2, r3⟩
    · rintro ⟨r, r1, r2⟩
      have hr := wk_rg k p r r1 p0 p1
      exact ⟨r, hr.1, by omega, (ih.2 r hr.1 (by omega)).mpr r1, r2⟩
/-- by how many debts one comes to another -/
def dT (ρ σ : Int → Int) (p q m : Int) : Int := fd (fun k => hb (ls ρ σ p k.toNat : Int) q) m.toNat 1 (-2)
theorem dT_ok {ρ τ σ : Int → Int} (hR : Rg ρ τ σ) {p q m : Int} (p0 : 0 ≤ p) (p1 : p < ρ 2) (q0 : 0 ≤ q) (q1 : q < ρ 2) (m0 : 0 ≤ m) : (dT ρ σ p q m = -2 ∧ ∀ k : Nat, 1 ≤ k → (k : Int) ≤ m → ¬ wk ρ σ k p q) ∨ ∃ k : Nat, dT ρ σ p q m = k ∧ 1 ≤ k ∧ (k : Int) ≤ m ∧ wk ρ σ k p q ∧ ∀ j : Nat, 1 ≤ j → j < k → ¬ wk ρ σ j p q := by
  have hw := hR.wd
  unfold dT fd
  rcases hf : fn (fun k => hb (ls ρ σ p k.toNat : Int) q) m.toNat 1 with _ | j
  · refine Or.inl ⟨rfl, fun k k1 k2 h => ?_⟩
    exact fn_no m.toNat 1 hf k (by omega) (by omega) (((ls_bit hR p0 p1 k).2 q q0 (by omega)).mpr h)
  · obtain ⟨g1, g2, g3⟩ := fn_rg m.toNat 1 j hf
    refine Or.inr ⟨j.toNat, ?_, by omega, by omega, ((ls_bit hR p0 p1 j.toNat).2 q q0 (by omega)).mp g2, fun i i1 i2 h => ?_⟩
    · show j = (j.toNat : Int)
      omega
    · exact g3 i (by omega) (by omega) (((ls_bit hR p0 p1 i).2 q q0 (by omega)).mpr h)
theorem dT_eq {ρ τ σ : Int → Int} (hR : Rg ρ τ σ) {p q : Int} {m : Nat} (p0 : 0 ≤ p) (p1 : p < ρ 2) (q0 : 0 ≤ q) (q1 : q < ρ 2) (m1 : 1 ≤ m) : dT ρ σ p q m = m ↔ wk ρ σ m p q ∧ ∀ j : Nat, 1 ≤ j → j < m → ¬ wk ρ σ j p q := by
  rcases dT_ok hR p0 p1 q0 q1 (show (0 : Int) ≤ m by omega) with ⟨h1, h2⟩ | ⟨k, h1, h2, h3, h4, h5⟩
  · constructor
    · intro h
      omega
    · rintro ⟨h, -⟩
      exact absurd h (h2 m m1 (Int.le_refl _))
  · constructor
    · intro h
      obtain rfl : k = m := by omega
      exact ⟨h4, h5⟩
    · rintro ⟨g1, g2⟩
      rw [h1]
      by_cases hk : k = m
      · rw [hk]
      · exact absurd h4 (g2 k h2 (by omega))
theorem k_owedBy (x : Nat) (F : Nat → Int) (P : Nat → Option Nat) (A : Nat → Int → Int) (f l : Nat → Int) (a : Nat → Int → Int) (b : fk_M) {q lw hk : Int → Nat} {pa sg un l5 l6 s1 s2 s3 : Nat} {ρ τ σ : Int → Int} (hR : Rg ρ τ σ) (hA : Api x P b ρ τ σ q lw hk pa sg un l5 l6 s1 s2 s3) {p : Int} (h0 : 0 ≤ p) (h1 : p < ρ 2) : f_X1_owedBy (some x) (ii p) (hp x F P A f l a b) = some (ii (ob ρ σ p)) := by
  have hw := hR.wd
  have hn : (ρ 2).toNat ≤ 5 := by omega
  have hk1 := hA.2.2.1
  unfold f_X1_owedBy ob
  rw [← al_itr _ _ hn]
  refine loop_i0 (fun N u k => f_X1_owedBy_L4 (some x) (ii p) (hp x F P A f l a b) N u (ii k)) (fun (u : Int32) (q : Int) => u ||| (if σ (10 + 5 * p + q) = 0 then (0 : Int32) else i_shl 1 (ii q))) (fun u => some u) (lo := 0) (hi := ρ 2) ?_ ?_ (ρ 2).toNat fk_fuel 0 0 (by omega) (by omega) (by unfold fk_fuel; omega)
  · intro N u
    try dsimp only
    rw [f_X1_owedBy_L4]
    simp (disch := first | omega | assumption) only [Option.bind_some, bn2_some, ii_lit, ii_neg, ii_add, ii_sub, ii_mul, ii_le, ii_lt, ii_eq, ii_ite, ii_or, ii_and, ii_bit, ii_rem, ii_div, b0_, b1_, b2_, b3_, true_and, and_true, u1_eq, u1_ne, u2_eq, u2_nk, u2_ni, uP_eq, uP_ne, gk1, gk2, gk3, gk4, gk10, gk11, gk12, gk13, gk14, gk15, gk17, gkr0, gkr7, gkr8, gkr9, gkr16, gkr18, gkr19, gkr5, gkr6, ok0, ok1, ok2, ok3, gl2_0, gl2_1, gl2_2, gl3_0, gl3_1, gl3_2, gm0, gm2, gm3, gm4, gm5, gm6, gm7, gm8, gm9, gm10, gm11, gm13, gm14, gm22, gm23, gm26, gm27, gm28, gm29, gm31, gm32, gm33, gm36, gm37, gm39, gm40, gm41, gm1, gm12, gm15, gm16, gm17, gm18, gm19, gm20, gm21, gm24, gm25, gm30, gm34, gm35, gm38, rk0, sk0, rk9, sk9, rk16, sk16, rk18, sk18, rk19, sk19, rm1, sm1, rm12, sm12, rm15, sm15, rm16, sm16, rm17, sm17, rm18, sm18, rm19, sm19, rm20, sm20, rm21, sm21, rm24, sm24, rm25, sm25, rm30, sm30, rm34, sm34, rm35, sm35, rm38, sm38, pk1, pk2, pk3, pk4, pk10, pk11, pk12, pk13, pk14, pk15, pk17, pkr5, pkr6, pm0, pm2, pm3, pm4, pm5, pm6, pm7, pm8, pm9, pm10, pm11, pm13, pz13_0, pz13_1, pm14, pz14_0, pz14_1, pm22, pm23, pm26, pm27, pm28, pm29, pm31, pm32, pm33, pm36, pm37, pm39, pm40, pm41, pl2_0, pl2_1, pl2_2, pl3_0, pl3_1, pl3_2, hk1]
    rw [if_pos (by omega)]
  · intro N u k k1 k2
    have e1 := k_owed x F P A f l a b hR hA (p := p) (r := k) h0 (by omega) k1 (by omega)
    have hd := (hR.ds h0 h1 k1 k2).1
    try dsimp only
    rw [f_X1_owedBy_L4, ok0, Option.bind_some, hk1, Option.bind_some, if_neg (by rw [ii_le (by omega) (by omega)]; omega), Option.bind_some, e1, Option.bind_some, show (1 : Int32) = ii 1 from rfl, ii_add]
    simp only [show (0 : Int32) = ii 0 from rfl, ii_le (a := σ (10 + 5 * p + k)) (b := 0) (by omega) (by omega)]
    by_cases hz : σ (10 + 5 * p + k) = 0
    · rw [if_pos hz, if_pos (by omega)]
    · rw [if_neg hz, if_neg (by omega)]
theorem k_dt20 (x : Nat) (F : Nat → Int) (P : Nat → Option Nat) (A : Nat → Int → Int) (f l : Nat → Int) (a : Nat → Int → Int) (b : fk_M) {q lw hk : Int → Nat} {pa sg un l5 l6 s1 s2 s3 : Nat} {ρ τ σ : Int → Int} (hR : Rg ρ τ σ) (hA : Api x P b ρ τ σ q lw hk pa sg un l5 l6 s1 s2 s3) {s : Nat} {to n : Int} (R : Int32 → Int32 → Option Int32) (z : Int32) : f_X1_debtsTo_L20 R (some x) (ii to) z (ii s) (ii n) (hp x F P A f l a b) fk_fuel (ii 0) (ii 0) = if hb (nx ρ σ s (ρ 2).toNat : Int) to then some (ii n) else R (ii (nx ρ σ s (ρ 2).toNat)) (ii (n + 1)) := by
  have hw := hR.wd
  have hk1 := hA.2.2.1
  have hx : ∀ (d : Nat) (k : Nat) (N : Nat), (k : Int) + d = ρ 2 → d < N → f_X1_debtsTo_L20 R (some x) (ii to) z (ii s) (ii n) (hp x F P A f l a b) N (ii (nx ρ σ s k)) (ii k) = if hb (nx ρ σ s (ρ 2).toNat : Int) to then some (ii n) else R (ii (nx ρ σ s (ρ 2).toNat)) (ii (n + 1)) := by
    intro d
    induction d with
    | zero =>
      intro k N hk hN
      obtain ⟨N, rfl⟩ : ∃ M, N = M + 1 := ⟨N - 1, by omega⟩
      obtain rfl : k = (ρ 2).toNat := by omega
      rw [f_X1_debtsTo_L20, ok0, Option.bind_some, hk1, Option.bind_some, if_pos (by rw [ii_le (by omega) (by omega)]; omega), k_hasB, Option.bind_some]
      by_cases hc : hb (nx ρ σ s (ρ 2).toNat : Int) to
      · rw [if_pos hc, if_pos hc, if_neg (show ¬ ii 1 = 0 by decide)]
      · rw [if_neg hc, if_neg hc, if_pos (show ii 0 = 0 from rfl), show (1 : Int32) = ii 1 from rfl, ii_add]
    | succ d ih =>
      intro k N hk hN
      obtain ⟨N, rfl⟩ : ∃ M, N = M + 1 := ⟨N - 1, by omega⟩
      have e1 := k_owedBy x F P A f l a b hR hA (p := k) (by omega) (by omega)
      have hi := ih (k + 1) N (by omega) (by omega)
      have hb1 := (nx_bit hR s k).1
      have hb2 := (ob_bit hR k).1
      rw [f_X1_debtsTo_L20, ok0, Option.bind_some, hk1, Option.bind_some, if_neg (by rw [ii_le (by omega) (by omega)]; omega), k_hasB, Option.bind_some, ← hi]
      unfold f_X1_debtsTo_J51
      have e2 : nx ρ σ s (k + 1) = nx ρ σ s k ||| (if hb (s : Int) (k : Int) then ob ρ σ k else 0) := rfl
      have e3 : ii (k : Int) + 1 = ii ((k : Int) + 1) := by rw [show (1 : Int32) = ii 1 from rfl, ii_add]
      rw [e2, e3]
      by_cases hc : hb (s : Int) (k : Int)
      · rw [if_pos hc, if_pos hc, if_neg (show ¬ ii 1 = 0 by decide), Option.bind_some, e1, Option.bind_some, (y_orr hb1 hb2).1]
        rfl
      · rw [if_neg hc, if_neg hc, if_pos (show ii 0 = 0 from rfl), show (0 : Int32) = ii ((0 : Nat) : Int) from rfl, (y_orr hb1 (show 0 < 32 by omega)).1]
        rfl
  exact hx (ρ 2).toNat 0 fk_fuel (by omega) (by unfold fk_fuel; omega)
theorem k_debtsTo (x : Nat) (F : Nat → Int) (P : Nat → Option Nat) (A : Nat → Int → Int) (f l : Nat → Int) (a : Nat → Int → Int) (b : fk_M) {q lw hk : Int → Nat} {pa sg un l5 l6 s1 s2 s3 : Nat} {ρ τ σ : Int → Int} (hR : Rg ρ τ σ) (hA : Api x P b ρ τ σ q lw hk pa sg un l5 l6 s1 s2 s3) {p r m : Int} (p0 : 0 ≤ p) (p1 : p < ρ 2) (m0 : 0 ≤ m) (m1 : m ≤ 5) : f_X1_debtsTo (some x) (ii p) (ii r) (ii m) (hp x F P A f l a b) = some (ii (dT ρ σ p r m)) := by
  have hw := hR.wd
  unfold f_X1_debtsTo dT
  rw [(y_one p0 (show p < 5 by omega)).1]
  refine loop_fd (fun N k => f_X1_debtsTo_L8 (some x) (ii r) (ii m) (hp x F P A f l a b) N (ii (ls ρ σ p (k - 1).toNat)) (ii k)) (fun k => hb (ls ρ σ p k.toNat : Int) r) (fun u => some (ii u)) (-2) (lo := 1) (hi := m + 1) ?_ ?_ m.toNat fk_fuel 1 (by omega) (by omega) (by unfold fk_fuel; omega)
  · intro N
    try dsimp only
    rw [f_X1_debtsTo_L8, if_pos (by rw [ii_lt (by omega) (by omega)]; omega)]
    rfl
  · intro N k k1 k2
    have e1 := k_dt20 x F P A f l a b hR hA (s := ls ρ σ p (k - 1).toNat) (to := r) (n := k) (f_X1_debtsTo_L8 (some x) (ii r) (ii m) (hp x F P A f l a b) N) (ii m)
    have e2 : nx ρ σ (ls ρ σ p (k - 1).toNat) (ρ 2).toNat = ls ρ σ p k.toNat := by
      rw [show k.toNat = (k - 1).toNat + 1 by omega]
      rfl
    rw [e2] at e1
    try dsimp only
    rw [f_X1_debtsTo_L8, if_neg (by rw [ii_lt (by omega) (by omega)]; omega), show k + 1 - 1 = k by omega]
    exact e1
def s_ring (h : Int) (ρ σ : Int → Int) (p : Int) : Int := if (h = 1 ∧ 0 ≤ p ∧ p < ρ 2) then dT ρ σ p p (ρ 2) else -1
theorem k_ring (x : Nat) (F : Nat → Int) (P : Nat → Option Nat) (A : Nat → Int → Int) (f l : Nat → Int) (a : Nat → Int → Int) (b : fk_M) {h : Int} {ρ τ σ : Int → Int} (hK : Kq x P b h ρ τ σ) {p : Int} (hp0 : rg p) : KO x F P A f l a b (s_ring h ρ σ p) (if (h = 1 ∧ 0 ≤ p ∧ p < ρ 2) then 0 else 1) (f_X1_ring (some x) (ii p) (hp x F P A f l a b)) := by
  unfold f_X1_ring s_ring
  rw [ok0, Option.bind_some, k_isPair x F P A f l a b hp0 hK, Option.bind_some]
  by_cases h0 : (h = 1 ∧ 0 ≤ p ∧ p < ρ 2)
  rotate_left
  · rw [if_neg h0, if_neg h0, if_neg h0, if_pos (show ii 0 = 0 by decide)]
    simp (disch := first | omega | assumption) only [Option.bind_some, bn2_some, ii_lit, ii_neg, ii_add, ii_sub, ii_mul, ii_le, ii_lt, ii_eq, ii_ite, ii_or, ii_and, ii_bit, ii_rem, ii_div, b0_, b1_, b2_, b3_, true_and, and_true, u1_eq, u1_ne, u2_eq, u2_nk, u2_ni, uP_eq, uP_ne, gk1, gk2, gk3, gk4, gk10, gk11, gk12, gk13, gk14, gk15, gk17, gkr0, gkr7, gkr8, gkr9, gkr16, gkr18, gkr19, gkr5, gkr6, ok0, ok1, ok2, ok3, gl2_0, gl2_1, gl2_2, gl3_0, gl3_1, gl3_2, gm0, gm2, gm3, gm4, gm5, gm6, gm7, gm8, gm9, gm10, gm11, gm13, gm14, gm22, gm23, gm26, gm27, gm28, gm29, gm31, gm32, gm33, gm36, gm37, gm39, gm40, gm41, gm1, gm12, gm15, gm16, gm17, gm18, gm19, gm20, gm21, gm24, gm25, gm30, gm34, gm35, gm38, rk0, sk0, rk9, sk9, rk16, sk16, rk18, sk18, rk19, sk19, rm1, sm1, rm12, sm12, rm15, sm15, rm16, sm16, rm17, sm17, rm18, sm18, rm19, sm19, rm20, sm20, rm21, sm21, rm24, sm24, rm25, sm25, rm30, sm30, rm34, sm34, rm35, sm35, rm38, sm38, pk1, pk2, pk3, pk4, pk10, pk11, pk12, pk13, pk14, pk15, pk17, pkr5, pkr6, pm0, pm2, pm3, pm4, pm5, pm6, pm7, pm8, pm9, pm10, pm11, pm13, pz13_0, pz13_1, pm14, pz14_0, pz14_1, pm22, pm23, pm26, pm27, pm28, pm29, pm31, pm32, pm33, pm36, pm37, pm39, pm40, pm41, pl2_0, pl2_1, pl2_2, pl3_0, pl3_1, pl3_2, k_refused]
    exact KO.ref ..
  rw [if_pos h0, if_pos h0, if_pos h0, if_neg (show ¬ ii 1 = 0 by decide)]
  obtain ⟨rfl, hp1, hp2⟩ := h0
  obtain ⟨hh, -⟩ | ⟨-, hR, q, lw, hk, pa, sg, un, l5, l6, s1, s2, s3, hA⟩ := hK
  · omega
  have hw := hR.wd
  have hq := hR.pr hp1 hp2
  refine KO.mk F A (ke.rfl' _) rfl ?_
  have e1 := k_debtsTo x F P A f l a b hR hA (p := p) (r := p) (m := ρ 2) hp1 hp2 (by omega) (by omega)
  have hk1 := hA.2.2.1
  simp (disch := first | omega | assumption) only [Option.bind_some, bn2_some, ii_lit, ii_neg, ii_add, ii_sub, ii_mul, ii_le, ii_lt, ii_eq, ii_ite, ii_or, ii_and, ii_bit, ii_rem, ii_div, b0_, b1_, b2_, b3_, true_and, and_true, u1_eq, u1_ne, u2_eq, u2_nk, u2_ni, uP_eq, uP_ne, gk1, gk2, gk3, gk4, gk10, gk11, gk12, gk13, gk14, gk15, gk17, gkr0, gkr7, gkr8, gkr9, gkr16, gkr18, gkr19, gkr5, gkr6, ok0, ok1, ok2, ok3, gl2_0, gl2_1, gl2_2, gl3_0, gl3_1, gl3_2, gm0, gm2, gm3, gm4, gm5, gm6, gm7, gm8, gm9, gm10, gm11, gm13, gm14, gm22, gm23, gm26, gm27, gm28, gm29, gm31, gm32, gm33, gm36, gm37, gm39, gm40, gm41, gm1, gm12, gm15, gm16, gm17, gm18, gm19, gm20, gm21, gm24, gm25, gm30, gm34, gm35, gm38, rk0, sk0, rk9, sk9, rk16, sk16, rk18, sk18, rk19, sk19, rm1, sm1, rm12, sm12, rm15, sm15, rm16, sm16, rm17, sm17, rm18, sm18, rm19, sm19, rm20, sm20, rm21, sm21, rm24, sm24, rm25, sm25, rm30, sm30, rm34, sm34, rm35, sm35, rm38, sm38, pk1, pk2, pk3, pk4, pk10, pk11, pk12, pk13, pk14, pk15, pk17, pkr5, pkr6, pm0, pm2, pm3, pm4, pm5, pm6, pm7, pm8, pm9, pm10, pm11, pm13, pz13_0, pz13_1, pm14, pz14_0, pz14_1, pm22, pm23, pm26, pm27, pm28, pm29, pm31, pm32, pm33, pm36, pm37, pm39, pm40, pm41, pl2_0, pl2_1, pl2_2, pl3_0, pl3_1, pl3_2, hk1, e1, k_well]
/-- the least way round -/
def gp (ρ σ : Int → Int) (p : Int) : Nat → Int
  | 0 => p
  | k + 1 => fd (fun q => hb (ob ρ σ (gp ρ σ p k) : Int) q ∧ dT ρ σ q p (dT ρ σ p p (ρ 2) - k - 1) = dT ρ σ p p (ρ 2) - k - 1) (ρ 2).toNat 0 0
/-- what is so all along it -/
def Gp (ρ σ : Int → Int) (p : Int) (L k : Nat) : Prop := (0 ≤ gp ρ σ p k ∧ gp ρ σ p k < ρ 2) ∧ wk ρ σ (L - k) (gp ρ σ p k) p ∧ ∀ j : Nat, 1 ≤ j → j < L - k → ¬ wk ρ σ j (gp ρ σ p k) p
theorem gp_on {ρ τ σ : Int → Int} (hR : Rg ρ τ σ) {p : Int} (p0 : 0 ≤ p) (p1 : p < ρ 2) {L k : Nat} (hL : dT ρ σ p p (ρ 2) = L) (hk : k + 1 < L) (h : Gp ρ σ p L k) : Gp ρ σ p L (k + 1) ∧ (Ed ρ σ (gp ρ σ p k) (gp ρ σ p (k + 1))) ∧ (∀ q, 0 ≤ q → q < gp ρ σ p (k + 1) → Ed ρ σ (gp ρ σ p k) q → ∀ j : Nat, 1 ≤ j → j ≤ L - k - 1 → ¬ wk ρ σ j q p) ∧ fn (fun q => hb (ob ρ σ (gp ρ σ p k) : Int) q ∧ dT ρ σ q p (dT ρ σ p p (ρ 2) - k - 1) = dT ρ σ p p (ρ 2) - k - 1) (ρ 2).toNat 0 = some (gp ρ σ p (k + 1)) := by
  have hw := hR.wd
  obtain ⟨⟨g0, g1⟩, g2, g3⟩ := h
  have hob := (ob_bit hR (gp ρ σ p k)).2
  have em : dT ρ σ p p (ρ 2) - k - 1 = ((L - k - 1 : Nat) : Int) := by omega
  have hin : ∀ q j, 0 ≤ q → q < ρ 2 → Ed ρ σ (gp ρ σ p k) q → 1 ≤ j → j < L - k - 1 → ¬ wk ρ σ j q p := fun q j _ _ he j1 j2 hwk => g3 (j + 1) (by omega) (by omega) ⟨q, he, hwk⟩
  rcases hf : fn (fun q => hb (ob ρ σ (gp ρ σ p k) : Int) q ∧ dT ρ σ q p (dT ρ σ p p (ρ 2) - k - 1) = dT ρ σ p p (ρ 2) - k - 1) (ρ 2).toNat 0 with _ | v
  · exfalso
    rw [show L - k = L - k - 1 + 1 by omega] at g2
    obtain ⟨r, r1, r2⟩ := g2
    refine fn_no (ρ 2).toNat 0 hf r r1.1.1 (by have := r1.1.2; omega) ⟨(hob r r1.1.1 (by have := r1.1.2; omega)).mpr r1, ?_⟩
    rw [em]
    exact (dT_eq hR r1.1.1 r1.1.2 p0 p1 (by omega)).mpr ⟨r2, fun j j1 j2 => hin r j r1.1.1 r1.1.2 r1 j1 j2⟩
  · obtain ⟨v1, ⟨v2, v3⟩, v4⟩ := fn_rg (ρ 2).toNat 0 v hf
    have ev : gp ρ σ p (k + 1) = v := by
      show fd _ _ _ _ = v
      unfold fd
      rw [hf]
      rfl
    have hE := (hob v v1.1 (by omega)).mp v2
    rw [em] at v3
    obtain ⟨w1, w2⟩ := (dT_eq hR v1.1 (by omega) p0 p1 (by omega)).mp v3
    rw [ev]
    refine ⟨?_, hE, fun q q0 q1 qe j j1 j2 hwk => ?_, rfl⟩
    · unfold Gp
      rw [ev, show L - (k + 1) = L - k - 1 by omega]
      exact ⟨⟨v1.1, by omega⟩, w1, w2⟩
    · by_cases hj : j < L - k - 1
      · exact hin q j q0 qe.1.2 qe j1 hj hwk
      · obtain rfl : j = L - k - 1 := by omega
        refine v4 q q0 q1 ⟨(hob q q0 (by omega)).mpr qe, ?_⟩
        rw [em]
        exact (dT_eq hR q0 qe.1.2 p0 p1 (by omega)).mpr ⟨hwk, fun i i1 i2 => hin q i q0 qe.1.2 qe i1 i2⟩
theorem gp_all {ρ τ σ : Int → Int} (hR : Rg ρ τ σ) {p : Int} (p0 : 0 ≤ p) (p1 : p < ρ 2) {L : Nat} (hL : dT ρ σ p p (ρ 2) = L) : 2 ≤ L ∧ (L : Int) ≤ ρ 2 ∧ ∀ k, k < L → Gp ρ σ p L k := by
  have hw := hR.wd
  rcases dT_ok hR p0 p1 p0 p1 (show 0 ≤ ρ 2 by omega) with ⟨h1, h2⟩ | ⟨k, h1, h2, h3, h4, h5⟩
  · omega
  · obtain rfl : k = L := by omega
    have h2L : 2 ≤ k := by
      by_cases hk : k = 1
      · subst hk
        obtain ⟨r, r1, r2⟩ := h4
        have r2 : r = p := r2
        subst r2
        exact absurd ((hR.ds p0 p1 p0 p1).2 rfl) r1.2
      · omega
    refine ⟨h2L, h3, fun i => ?_⟩
    induction i with
    | zero =>
      intro _
      exact ⟨⟨p0, p1⟩, h4, h5⟩
    | succ i ih =>
      intro hi
      exact (gp_on hR p0 p1 hL hi (ih (by omega))).1
def s_ringAt (h : Int) (ρ σ : Int → Int) (p i : Int) : Int := if (h = 1 ∧ 0 ≤ p ∧ p < ρ 2) ∧ 0 ≤ i ∧ i ≤ dT ρ σ p p (ρ 2) - 1 then gp ρ σ p i.toNat else -1
theorem dT_rg {ρ τ σ : Int → Int} (hR : Rg ρ τ σ) {p : Int} (p0 : 0 ≤ p) (p1 : p < ρ 2) : dT ρ σ p p (ρ 2) = -2 ∨ ∃ L : Nat, dT ρ σ p p (ρ 2) = L ∧ 2 ≤ L ∧ (L : Int) ≤ ρ 2 := by
  have hw := hR.wd
  rcases dT_ok hR p0 p1 p0 p1 (show 0 ≤ ρ 2 by omega) with ⟨h1, h2⟩ | ⟨k, h1, h2, h3, h4, h5⟩
  · exact Or.inl h1
  · have := gp_all hR p0 p1 h1
    exact Or.inr ⟨k, h1, this.1, this.2.1⟩
theorem k_ra48 (x : Nat) (F : Nat → Int) (P : Nat → Option Nat) (A : Nat → Int → Int) (f l : Nat → Int) (a : Nat → Int → Int) (b : fk_M) {q lw hk : Int → Nat} {pa sg un l5 l6 s1 s2 s3 : Nat} {ρ τ σ : Int → Int} (hR : Rg ρ τ σ) (hA : Api x P b ρ τ σ q lw hk pa sg un l5 l6 s1 s2 s3) {p : Int} (p0 : 0 ≤ p) (p1 : p < ρ 2) {L i : Nat} (hL : dT ρ σ p p (ρ 2) = L) (hi : i < L) : ∀ (d k N : Nat), k + d = i → d < N → f_X1_ringAt_L48 (some x) (ii p) (ii i) (hp x F P A f l a b) N (ii ((L : Int) - k)) (ii (gp ρ σ p k)) (ii k) = some (ii (gp ρ σ p i), hp x (Fo F 0) P A f l a b) := by
  have hw := hR.wd
  obtain ⟨hL2, hLn, hG⟩ := gp_all hR p0 p1 hL
  intro d
  induction d with
  | zero =>
    intro k N hk hN
    obtain ⟨N, rfl⟩ : ∃ M, N = M + 1 := ⟨N - 1, by omega⟩
    obtain rfl : k = i := by omega
    rw [f_X1_ringAt_L48]
    simp (disch := first | omega | assumption) only [Option.bind_some, bn2_some, ii_lit, ii_neg, ii_add, ii_sub, ii_mul, ii_le, ii_lt, ii_eq, ii_ite, ii_or, ii_and, ii_bit, ii_rem, ii_div, b0_, b1_, b2_, b3_, true_and, and_true, u1_eq, u1_ne, u2_eq, u2_nk, u2_ni, uP_eq, uP_ne, gk1, gk2, gk3, gk4, gk10, gk11, gk12, gk13, gk14, gk15, gk17, gkr0, gkr7, gkr8, gkr9, gkr16, gkr18, gkr19, gkr5, gkr6, ok0, ok1, ok2, ok3, gl2_0, gl2_1, gl2_2, gl3_0, gl3_1, gl3_2, gm0, gm2, gm3, gm4, gm5, gm6, gm7, gm8, gm9, gm10, gm11, gm13, gm14, gm22, gm23, gm26, gm27, gm28, gm29, gm31, gm32, gm33, gm36, gm37, gm39, gm40, gm41, gm1, gm12, gm15, gm16, gm17, gm18, gm19, gm20, gm21, gm24, gm25, gm30, gm34, gm35, gm38, rk0, sk0, rk9, sk9, rk16, sk16, rk18, sk18, rk19, sk19, rm1, sm1, rm12, sm12, rm15, sm15, rm16, sm16, rm17, sm17, rm18, sm18, rm19, sm19, rm20, sm20, rm21, sm21, rm24, sm24, rm25, sm25, rm30, sm30, rm34, sm34, rm35, sm35, rm38, sm38, pk1, pk2, pk3, pk4, pk10, pk11, pk12, pk13, pk14, pk15, pk17, pkr5, pkr6, pm0, pm2, pm3, pm4, pm5, pm6, pm7, pm8, pm9, pm10, pm11, pm13, pz13_0, pz13_1, pm14, pz14_0, pz14_1, pm22, pm23, pm26, pm27, pm28, pm29, pm31, pm32, pm33, pm36, pm37, pm39, pm40, pm41, pl2_0, pl2_1, pl2_2, pl3_0, pl3_1, pl3_2, k_well]
    rw [if_pos (by omega)]
  | succ d ih =>
    intro k N hk hN
    obtain ⟨N, rfl⟩ : ∃ M, N = M + 1 := ⟨N - 1, by omega⟩
    have hGk := hG k (by omega)
    obtain ⟨n1, n2, n3, n4⟩ := gp_on hR p0 p1 hL (by omega) hGk
    have hob := k_owedBy x F P A f l a b hR hA hGk.1.1 hGk.1.2
    have hi2 := ih (k + 1) N (by omega) (by omega)
    rw [f_X1_ringAt_L48, if_neg (by rw [ii_le (by omega) (by omega)]; omega), show (-1 : Int32) = ii (-1) from rfl, ii_add, show (0 : Int32) = ii 0 from rfl]
    have hL61 : ∀ (d N' : Nat) (q : Int), 0 ≤ q → q + d = ρ 2 → d < N' → (∀ j, q ≤ j → j < gp ρ σ p (k + 1) → ¬ (hb (ob ρ σ (gp ρ σ p k) : Int) j ∧ dT ρ σ j p (dT ρ σ p p (ρ 2) - k - 1) = dT ρ σ p p (ρ 2) - k - 1)) → q ≤ gp ρ σ p (k + 1) → f_X1_ringAt_L60 (f_X1_ringAt_L48 (some x) (ii p) (ii i) (hp x F P A f l a b) N) (some x) (ii p) (ii i) (ii ((L : Int) - k + -1)) (ii (gp ρ σ p k)) (ii k) (hp x F P A f l a b) N' (ii q) = f_X1_ringAt_L48 (some x) (ii p) (ii i) (hp x F P A f l a b) N (ii ((L : Int) - k + -1)) (ii (gp ρ σ p (k + 1))) (ii ((k : Int) + 1)) := by
      have hfr := fn_rg (ρ 2).toNat 0 _ n4
      intro d
      induction d with
      | zero =>
        intro N' q q0 q1 q2 q3 q4
        have := hfr.1
        omega
      | succ d ih2 =>
        intro N' q q0 q1 q2 q3 q4
        obtain ⟨N', rfl⟩ : ∃ M, N' = M + 1 := ⟨N' - 1, by omega⟩
        have e1 := k_debtsTo x F P A f l a b hR hA (p := q) (r := p) (m := (L : Int) - k + -1) q0 (by omega) (by omega) (by omega)
        rw [f_X1_ringAt_L60, ok0, Option.bind_some, hob, Option.bind_some, k_hasB, Option.bind_some]
        unfold f_X1_ringAt_J86
        have em : dT ρ σ p p (ρ 2) - k - 1 = (L : Int) - k + -1 := by omega
        by_cases hq : q = gp ρ σ p (k + 1)
        · subst hq
          obtain ⟨c1, c2⟩ := hfr.2.1
          rw [em] at c2
          rw [if_pos c1, if_neg (show ¬ ii 1 = 0 by decide), Option.bind_some, e1, Option.bind_some, c2, if_pos rfl, show (1 : Int32) = ii 1 from rfl, ii_add]
        · have hnot := q3 q (Int.le_refl _) (by omega)
          have hgo := ih2 N' (q + 1) (by omega) (by omega) (by omega) (fun j j1 j2 => q3 j (by omega) j2) (by omega)
          have hdr : dT ρ σ q p ((L : Int) - k + -1) = -2 ∨ (1 ≤ dT ρ σ q p ((L : Int) - k + -1) ∧ dT ρ σ q p ((L : Int) - k + -1) ≤ (L : Int) - k + -1) := by
            rcases dT_ok hR q0 (show q < ρ 2 by omega) p0 p1 (show (0 : Int) ≤ (L : Int) - k + -1 by omega) with ⟨h1, -⟩ | ⟨j, h1, h2, h3, -⟩
            · exact Or.inl h1
            · exact Or.inr (by omega)
          by_cases hc : hb (ob ρ σ (gp ρ σ p k) : Int) q
          · rw [if_pos hc, if_neg (show ¬ ii 1 = 0 by decide), Option.bind_some, e1, Option.bind_some, if_neg (by
              rw [ii_eq (by omega) (by omega)]
              intro h
              rw [em] at hnot
              exact hnot ⟨hc, h⟩), show (1 : Int32) = ii 1 from rfl, ii_add]
            exact hgo
          · rw [if_neg hc, if_pos (show ii 0 = 0 from rfl), show (1 : Int32) = ii 1 from rfl, ii_add]
            exact hgo
    have hfr := fn_rg (ρ 2).toNat 0 _ n4
    refine Eq.trans (hL61 (ρ 2).toNat fk_fuel 0 (by omega) (by omega) (by unfold fk_fuel; omega) (fun j j1 j2 => hfr.2.2 j j1 j2) hfr.1.1) ?_
    rw [← hi2]
    congr 2
    omega
theorem k_ringAt (x : Nat) (F : Nat → Int) (P : Nat → Option Nat) (A : Nat → Int → Int) (f l : Nat → Int) (a : Nat → Int → Int) (b : fk_M) {h : Int} {ρ τ σ : Int → Int} (hK : Kq x P b h ρ τ σ) {p i : Int} (hp0 : rg p) (hi : rg i) : KO x F P A f l a b (s_ringAt h ρ σ p i) (if (h = 1 ∧ 0 ≤ p ∧ p < ρ 2) ∧ 0 ≤ i ∧ i ≤ dT ρ σ p p (ρ 2) - 1 then 0 else 1) (f_X1_ringAt (some x) (ii p) (ii i) (hp x F P A f l a b)) := by
  unfold f_X1_ringAt s_ringAt
  rw [ok0, Option.bind_some, k_isPair x F P A f l a b hp0 hK, Option.bind_some]
  by_cases h0 : (h = 1 ∧ 0 ≤ p ∧ p < ρ 2)
  rotate_left
  · rw [if_neg h0, if_neg (fun h => h0 h.1), if_neg (fun h => h0 h.1), if_pos (show ii 0 = 0 by decide)]
    simp (disch := first | omega | assumption) only [Option.bind_some, bn2_some, ii_lit, ii_neg, ii_add, ii_sub, ii_mul, ii_le, ii_lt, ii_eq, ii_ite, ii_or, ii_and, ii_bit, ii_rem, ii_div, b0_, b1_, b2_, b3_, true_and, and_true, u1_eq, u1_ne, u2_eq, u2_nk, u2_ni, uP_eq, uP_ne, gk1, gk2, gk3, gk4, gk10, gk11, gk12, gk13, gk14, gk15, gk17, gkr0, gkr7, gkr8, gkr9, gkr16, gkr18, gkr19, gkr5, gkr6, ok0, ok1, ok2, ok3, gl2_0, gl2_1, gl2_2, gl3_0, gl3_1, gl3_2, gm0, gm2, gm3, gm4, gm5, gm6, gm7, gm8, gm9, gm10, gm11, gm13, gm14, gm22, gm23, gm26, gm27, gm28, gm29, gm31, gm32, gm33, gm36, gm37, gm39, gm40, gm41, gm1, gm12, gm15, gm16, gm17, gm18, gm19, gm20, gm21, gm24, gm25, gm30, gm34, gm35, gm38, rk0, sk0, rk9, sk9, rk16, sk16, rk18, sk18, rk19, sk19, rm1, sm1, rm12, sm12, rm15, sm15, rm16, sm16, rm17, sm17, rm18, sm18, rm19, sm19, rm20, sm20, rm21, sm21, rm24, sm24, rm25, sm25, rm30, sm30, rm34, sm34, rm35, sm35, rm38, sm38, pk1, pk2, pk3, pk4, pk10, pk11, pk12, pk13, pk14, pk15, pk17, pkr5, pkr6, pm0, pm2, pm3, pm4, pm5, pm6, pm7, pm8, pm9, pm10, pm11, pm13, pz13_0, pz13_1, pm14, pz14_0, pz14_1, pm22, pm23, pm26, pm27, pm28, pm29, pm31, pm32, pm33, pm36, pm37, pm39, pm40, pm41, pl2_0, pl2_1, pl2_2, pl3_0, pl3_1, pl3_2, k_refused]
    exact KO.ref ..
  rw [if_pos h0, if_neg (show ¬ ii 1 = 0 by decide)]
  have h0' := h0
  obtain ⟨rfl, hp1, hp2⟩ := h0
  obtain ⟨hh, -⟩ | ⟨-, hR, q, lw, hk, pa, sg, un, l5, l6, s1, s2, s3, hA⟩ := hK
  · omega
  have hw := hR.wd
  have hk1 := hA.2.2.1
  have e1 := k_debtsTo x F P A f l a b hR hA (p := p) (r := p) (m := ρ 2) hp1 hp2 (by omega) (by omega)
  have hdr := dT_rg hR hp1 hp2
  have hdb : -2 ≤ dT ρ σ p p (ρ 2) ∧ dT ρ σ p p (ρ 2) ≤ 5 := by
    rcases hdr with h | ⟨L, h1, h2, h3⟩
    · omega
    · omega
  have e2 := k_in (hp x F P A f l a b) (v := i) (lo := 0) (hi := dT ρ σ p p (ρ 2) - 1) hi (by omega) (by clear hdr; omega)
  rw [Option.bind_some, hk1, Option.bind_some, Option.bind_some, e1, Option.bind_some, show (1 : Int32) = ii 1 from rfl, ii_sub, show (0 : Int32) = ii 0 from rfl, e2, Option.bind_some]
  by_cases hc : 0 ≤ i ∧ i ≤ dT ρ σ p p (ρ 2) - 1
  · rw [if_pos hc, if_neg (show ¬ ii 1 = ii 0 by decide), if_pos ⟨h0', hc⟩, if_pos ⟨h0', hc⟩]
    refine KO.mk F A (ke.rfl' _) rfl ?_
    rcases hdr with h | ⟨L, h1, h2, h3⟩
    · omega
    have := k_ra48 x F P A f l a b hR hA hp1 hp2 (L := L) (i := i.toNat) h1 (by omega) i.toNat 0 fk_fuel (by omega) (by unfold fk_fuel; omega)
    rw [Int.toNat_of_nonneg hc.1] at this
    rw [h1]
    rw [show (L : Int) - ((0 : Nat) : Int) = L by omega] at this
    exact this
  · rw [if_neg hc, if_pos rfl, if_neg (fun h => hc h.2), if_neg (fun h => hc h.2)]
    simp (disch := first | omega | assumption) only [Option.bind_some, bn2_some, ii_lit, ii_neg, ii_add, ii_sub, ii_mul, ii_le, ii_lt, ii_eq, ii_ite, ii_or, ii_and, ii_bit, ii_rem, ii_div, b0_, b1_, b2_, b3_, true_and, and_true, u1_eq, u1_ne, u2_eq, u2_nk, u2_ni, uP_eq, uP_ne, gk1, gk2, gk3, gk4, gk10, gk11, gk12, gk13, gk14, gk15, gk17, gkr0, gkr7, gkr8, gkr9, gkr16, gkr18, gkr19, gkr5, gkr6, ok0, ok1, ok2, ok3, gl2_0, gl2_1, gl2_2, gl3_0, gl3_1, gl3_2, gm0, gm2, gm3, gm4, gm5, gm6, gm7, gm8, gm9, gm10, gm11, gm13, gm14, gm22, gm23, gm26, gm27, gm28, gm29, gm31, gm32, gm33, gm36, gm37, gm39, gm40, gm41, gm1, gm12, gm15, gm16, gm17, gm18, gm19, gm20, gm21, gm24, gm25, gm30, gm34, gm35, gm38, rk0, sk0, rk9, sk9, rk16, sk16, rk18, sk18, rk19, sk19, rm1, sm1, rm12, sm12, rm15, sm15, rm16, sm16, rm17, sm17, rm18, sm18, rm19, sm19, rm20, sm20, rm21, sm21, rm24, sm24, rm25, sm25, rm30, sm30, rm34, sm34, rm35, sm35, rm38, sm38, pk1, pk2, pk3, pk4, pk10, pk11, pk12, pk13, pk14, pk15, pk17, pkr5, pkr6, pm0, pm2, pm3, pm4, pm5, pm6, pm7, pm8, pm9, pm10, pm11, pm13, pz13_0, pz13_1, pm14, pz14_0, pz14_1, pm22, pm23, pm26, pm27, pm28, pm29, pm31, pm32, pm33, pm36, pm37, pm39, pm40, pm41, pl2_0, pl2_1, pl2_2, pl3_0, pl3_1, pl3_2, k_refused]
    exact KO.ref ..
