/-! PLAIN 45: the model reads a pier -/
set_option maxRecDepth 100000
theorem m_p124e (x : Nat) (F : Nat → Int) (P : Nat → Option Nat) (A : Nat → Int → Int) (f l : Nat → Int) (a : Nat → Int → Int) (b : fk_M) (g : Nat → Nat) (h : f 13 = 1) : f_X2_pier_J124 g (some (x + 8)) (hp x F P A f l a b) = f_X2_pier_J183 g (some (x + 8)) (hp x F P A f l a b) := by
  unfold f_X2_pier_J124 f_X2_pier_J147
  rw [gm13, Option.bind_some, h, if_neg (show ¬ ii 1 = 0 by decide), Option.bind_some, if_neg (show ¬ ii 1 = 0 by decide)]
theorem m_p147e (x : Nat) (F : Nat → Int) (P : Nat → Option Nat) (A : Nat → Int → Int) (f l : Nat → Int) (a : Nat → Int → Int) (b : fk_M) (g : Nat → Nat) (h : f 13 = 1) : f_X2_pier_J147 g (some (x + 8)) (hp x F P A f l a b) = f_X2_pier_J183 g (some (x + 8)) (hp x F P A f l a b) := by
  unfold f_X2_pier_J147
  rw [gm13, Option.bind_some, h, if_neg (show ¬ ii 1 = 0 by decide)]
theorem m_p124 (x : Nat) (F : Nat → Int) (P : Nat → Option Nat) (A : Nat → Int → Int) (f l : Nat → Int) (a : Nat → Int → Int) (b : fk_M) (g : Nat → Nat) {s : Ls} (hM : MP (f 3) f a (.ok s)) (h4 : s.1.1 ≠ 4) (hF : FI s.2.1 s.2.2) : ∃ f', f_X2_pier_J124 g (some (x + 8)) (hp x F P A f l a b) = f_X2_pier_J183 g (some (x + 8)) (hp x F P A f' l a b) ∧ MP (f 3) f' a (aEnd s) ∧ FrF f f' := by
  obtain ⟨m1, m2, m3, m4, m5⟩ := hM
  have hr := m3.2.2.1
  unfold f_X2_pier_J124 aEnd
  rw [gm13, Option.bind_some, m1, if_pos (show ii 0 = 0 from rfl), gm6, Option.bind_some, m2.2.2.1, if_neg h4]
  by_cases h1 : s.1.1 = 1
  rotate_left
  · have hc : ¬ ii (if s.1.1 = 1 then 0 else if s.1.1 = 0 then 1 else s.1.1) = 0 := by
      rw [show (0 : Int32) = ii 0 from rfl, ii_eq (by (repeat' split) <;> omega) (by omega)]
      (repeat' split) <;> omega
    rw [if_neg hc, if_neg h1, gm4, Option.bind_some, ok1, Option.bind_some, m2.1, show (1 : Int32) = ii 1 from rfl, m_wrong0 x F P A f l a b m1, Option.bind_some, m_p147e x F P A _ l a b g (wf_MS (f 3) f a 1 s.1.2.1).1]
    exact ⟨wf f 1 s.1.2.1, rfl, wf_MS (f 3) f a 1 s.1.2.1, wf_Fr f 1 s.1.2.1⟩
  rw [if_pos h1, if_pos (show ii 0 = 0 from rfl), if_pos h1]
  have hbad : ∃ f', f_X2_pier_J173 g (some (x + 8)) (hp x F P A f l a b) = f_X2_pier_J183 g (some (x + 8)) (hp x F P A f' l a b) ∧ MP (f 3) f' a (.error (6, s.1.2.1)) ∧ FrF f f' := by
    refine ⟨wf f 6 s.1.2.1, ?_, wf_MS (f 3) f a 6 s.1.2.1, wf_Fr f 6 s.1.2.1⟩
    unfold f_X2_pier_J173
    rw [gm4, Option.bind_some, ok1, Option.bind_some, m2.1, show (6 : Int32) = ii 6 from rfl, m_wrong0 x F P A f l a b m1, Option.bind_some]
  obtain ⟨q1, q2, q3, q4, -⟩ := hF
  unfold f_X2_pier_J147
  rw [gm13, Option.bind_some, m1, if_pos (show ii 0 = 0 from rfl), gm16, Option.bind_some, show (7 : Int32) = ii 7 from rfl, rm16 x F P A f l a b (by omega) (by omega), Option.bind_some, m4]
  by_cases h7 : s.2.1 7 = 0
  · rw [h7, if_pos (show ii 0 = 0 from rfl), if_pos (Or.inl rfl)]
    exact hbad
  rw [if_neg (show ¬ ii (s.2.1 7) = 0 by rw [show (0 : Int32) = ii 0 from rfl, ii_eq (by omega) (by omega)]; exact h7), Option.bind_some, show (2 : Int32) = ii 2 from rfl, rm16 x F P A f l a b (by omega) (by omega), Option.bind_some, m4]
  by_cases h2 : s.2.1 2 = 0
  · rw [h2, if_pos (show ii 0 = 0 from rfl), if_pos (Or.inr rfl)]
    exact hbad
  · rw [if_neg (show ¬ ii (s.2.1 2) = 0 by rw [show (0 : Int32) = ii 0 from rfl, ii_eq (by omega) (by omega)]; exact h2), if_neg (by omega)]
    exact ⟨f, rfl, ⟨m1, m2, m3, m4, m5⟩, FrF.rfl' f⟩
theorem m_pL97 (x : Nat) (F : Nat → Int) (P : Nat → Option Nat) (A : Nat → Int → Int) (l : Nat → Int) (b : fk_M) (g : Nat → Nat) (hC : Cn x b g) {n : Int} : ∀ (d N : Nat) (s : Ls) (f : Nat → Int) (a : Nat → Int → Int), f 3 = n → Tx8 (a 1) n → MP n f a (.ok s) → FI s.2.1 s.2.2 → n - s.1.2.2.1 < d → d < N → ∃ f' a', f_X2_pier_L97 g (some (x + 8)) N (hp x F P A f l a b) = f_X2_pier_J183 g (some (x + 8)) (hp x F P A f' l a' b) ∧ MP n f' a' (aLoop (a 1) n d s) ∧ FrF f f' ∧ FrA a a' := by
  intro d
  induction d with
  | zero =>
    intro N s f a h3 hT hM hF hd hN
    have := hM.2.2.1.2.1
    omega
  | succ d ih =>
    intro N s f a h3 hT hM hF hd hN
    obtain ⟨N, rfl⟩ : ∃ M, N = M + 1 := ⟨N - 1, by omega⟩
    have hM' := hM
    obtain ⟨m1, m2, m3, m4, m5⟩ := hM
    have hr := m3.2.2.1
    have hp := m3.2.1
    rw [f_X2_pier_L97, gm13, Option.bind_some, m1, if_pos (show ii 0 = 0 from rfl), gm6, Option.bind_some, m2.2.2.1]
    rw [show aLoop (a 1) n (d + 1) s = if s.1.1 = 4 then (aLine (a 1) n (aOn (a 1) n s.1, s.2)).bind (aLoop (a 1) n d) else aEnd s from rfl]
    by_cases h4 : s.1.1 = 4
    rotate_left
    · have hc : ¬ ii (if s.1.1 = 1 then 0 else if s.1.1 = 0 then 1 else if s.1.1 = 4 then 59 else s.1.1) = 59 := by
        rw [show (59 : Int32) = ii 59 from rfl, ii_eq (by (repeat' split) <;> omega) (by omega)]
        (repeat' split) <;> omega
      rw [if_neg hc, if_neg h4]
      subst h3
      obtain ⟨f1, g1, g2, g3⟩ := m_p124 x F P A f l a b g hM' h4 hF
      exact ⟨f1, a, g1, g2, g3, fun _ _ _ _ => rfl⟩
    · have hc : ii (if s.1.1 = 1 then 0 else if s.1.1 = 0 then 1 else if s.1.1 = 4 then 59 else s.1.1) = 59 := by
        rw [if_neg (by omega), if_neg (by omega), if_pos h4]
        rfl
      rw [if_pos hc, if_pos h4, ok1, Option.bind_some]
      subst h3
      obtain ⟨f1, a1, g1, g2, g3, g4⟩ := m_next x F P A f l a b hT (by rw [m2.2.1]; exact hp.1) (by rw [m2.2.1]; exact hp.2)
      rw [m2.2.1] at g4
      have q1 := FrF.mk5 g2
      have e3 := q1.e3
      have e1 : a1 1 = a 1 := g3 1 (by omega)
      have e16 : a1 16 = s.2.1 := (g3 16 (by omega)).trans m4
      have e18 : a1 18 = s.2.2 := (g3 18 (by omega)).trans m5
      have hM1 : MS (f 3) f1 a1 (.ok (aOn (a 1) (f 3) s.1)) := ⟨(g2 13 (by omega) (by omega) (by omega) (by omega) (by omega)).trans m1, g4, tkn_ok hT hp.1 hp.2⟩
      obtain ⟨f2, a2, k1, k2, k3, k4⟩ := m_readLine x F P A f1 l a1 b g hC (t := aOn (a 1) (f 3) s.1) (by rw [e3, e1]; exact hT) (by rw [e16, e18]; exact hF.wf) (by rw [e3]; exact hM1)
      rw [e3, e1, e16, e18] at k2
      have k2 : MP (f 3) f2 a2 (aLine (a 1) (f 3) (aOn (a 1) (f 3) s.1, s.2)) := k2
      have hfa : FrA a a2 := fun j j1 j2 j3 => (k4 j j1 j2 j3).trans (g3 j j1)
      have e32 : f2 3 = f 3 := (q1.tr k3).e3
      have e12 : a2 1 = a 1 := hfa 1 (by omega) (by omega) (by omega)
      rw [g1, Option.bind_some, ok1, Option.bind_some, k1, Option.bind_some]
      rcases hl : aLine (a 1) (f 3) (aOn (a 1) (f 3) s.1, s.2) with e | s'
      · rw [hl] at k2
        obtain ⟨N, rfl⟩ : ∃ M, N = M + 1 := ⟨N - 1, by omega⟩
        refine ⟨f2, a2, ?_, k2, q1.tr k3, hfa⟩
        rw [f_X2_pier_L97, gm13, Option.bind_some, k2.1, if_neg (show ¬ ii 1 = 0 by decide), m_p124e x F P A f2 l a2 b g k2.1]
      · rw [hl] at k2
        obtain ⟨r1, r2, r3⟩ := aLine_ok hT (s := (aOn (a 1) (f 3) s.1, s.2)) (tkn_ok hT hp.1 hp.2) hF hl
        have r2 : (aOn (a 1) (f 3) s.1).1 = 2 := r2
        have hgt := (tkn_ge hT hp.1 hp.2).2 (by show (aOn (a 1) (f 3) s.1).1 ≠ 1; omega)
        have r11 : (tkn (a 1) (f 3) s.1.2.2.1).2.2.1 ≤ s'.1.2.2.1 := r1.1
        obtain ⟨f3, a3, z1, z2, z3, z4⟩ := ih N s' f2 a2 e32 (by rw [e12]; exact hT) k2 r3 (by omega) (by omega)
        rw [e12] at z2
        exact ⟨f3, a3, z1, z2, (q1.tr k3).tr z3, fun j j1 j2 j3 => (z4 j j1 j2 j3).trans (hfa j j1 j2 j3)⟩
theorem m_p183e (x : Nat) (F : Nat → Int) (P : Nat → Option Nat) (A : Nat → Int → Int) (f l : Nat → Int) (a : Nat → Int → Int) (b : fk_M) (g : Nat → Nat) (h : f 13 = 1) : f_X2_pier_J183 g (some (x + 8)) (hp x F P A f l a b) = some (ii (-1), hp x F P A (u1 f 11 4) l a b) := by
  unfold f_X2_pier_J183
  rw [gm13, Option.bind_some, h, if_neg (show ¬ ii 1 = 0 by decide), ok1, Option.bind_some, show (4 : Int32) = ii 4 from rfl, m_no, bn2_some]
theorem m_p183 (x : Nat) (F : Nat → Int) (P : Nat → Option Nat) (A : Nat → Int → Int) (f l : Nat → Int) (a : Nat → Int → Int) (b : fk_M) (g : Nat → Nat) (h : f 13 = 0) : ∃ a', f_X2_pier_J183 g (some (x + 8)) (hp x F P A f l a b) = some (ii (a 16 2), hp x F P A (u1 (u1 (u1 f 14 1) 22 0) 23 0) l a' b) ∧ (∀ j, j ≠ 15 → j ≠ 17 → j ≠ 19 → a' j = a j) ∧ (∀ t, 0 ≤ t → t < 95 → a' 15 t = a 16 t) ∧ (∀ t, 0 ≤ t → t < 36 → a' 17 t = a 18 t) ∧ (∀ t, 0 ≤ t → t < 36 → a' 19 t = a 18 t) := by
  obtain ⟨a1, c1, c2, c3⟩ := m_copy x F P A f l a b 12 11 (by omega) (by omega) (by decide) (i := 0) (j := 0) (n := 95) (by omega) (by omega) (by omega) (by omega) (by show (0 : Int) + 95 ≤ ((95 : Nat) : Int); omega) (by show (0 : Int) + 95 ≤ ((95 : Nat) : Int); omega) (by omega) (by omega)
  obtain ⟨a2, d1, d2, d3⟩ := m_copy x F P A f l a1 b 14 13 (by omega) (by omega) (by decide) (i := 0) (j := 0) (n := 36) (by omega) (by omega) (by omega) (by omega) (by show (0 : Int) + 36 ≤ ((36 : Nat) : Int); omega) (by show (0 : Int) + 36 ≤ ((36 : Nat) : Int); omega) (by omega) (by omega)
  obtain ⟨a3, e1, e2, e3⟩ := m_copy x F P A f l a2 b 14 15 (by omega) (by omega) (by decide) (i := 0) (j := 0) (n := 36) (by omega) (by omega) (by omega) (by omega) (by show (0 : Int) + 36 ≤ ((36 : Nat) : Int); omega) (by show (0 : Int) + 36 ≤ ((36 : Nat) : Int); omega) (by omega) (by omega)
  have c2 : ∀ k, k ≠ 15 → a1 k = a k := c2
  have d2 : ∀ k, k ≠ 17 → a2 k = a1 k := d2
  have e2 : ∀ k, k ≠ 19 → a3 k = a2 k := e2
  have c3 : ∀ t, a1 15 t = if 0 ≤ t ∧ t < 0 + 95 then a 16 (0 + (t - 0)) else a 15 t := c3
  have d3 : ∀ t, a2 17 t = if 0 ≤ t ∧ t < 0 + 36 then a1 18 (0 + (t - 0)) else a1 17 t := d3
  have e3 : ∀ t, a3 19 t = if 0 ≤ t ∧ t < 0 + 36 then a2 18 (0 + (t - 0)) else a2 19 t := e3
  have h15 : ∀ t, 0 ≤ t → t < 95 → a3 15 t = a 16 t := fun t t0 t1 => by
    rw [e2 15 (by omega), d2 15 (by omega), c3, if_pos (by omega), show 0 + (t - 0) = t by omega]
  refine ⟨a3, ?_, fun j j1 j2 j3 => (e2 j j3).trans ((d2 j j2).trans (c2 j j1)), h15, fun t t0 t1 => ?_, fun t t0 t1 => ?_⟩
  · unfold f_X2_pier_J183
    rw [gm13, Option.bind_some, h, if_pos (show ii 0 = 0 from rfl), gm16, Option.bind_some, gm15, Option.bind_some, show (0 : Int32) = ii 0 from rfl, show (95 : Int32) = ii 95 from rfl, c1, Option.bind_some, gm18, Option.bind_some, gm17, Option.bind_some, show (36 : Int32) = ii 36 from rfl, d1, Option.bind_some, gm18, Option.bind_some, gm19, Option.bind_some, e1, Option.bind_some]
    simp (disch := first | omega | assumption) only [Option.bind_some, bn2_some, ii_lit, ii_neg, ii_add, ii_sub, ii_mul, ii_le, ii_lt, ii_eq, ii_ite, ii_or, ii_and, ii_bit, ii_rem, ii_div, b0_, b1_, b2_, b3_, true_and, and_true, u1_eq, u1_ne, u2_eq, u2_nk, u2_ni, uP_eq, uP_ne, gk1, gk2, gk3, gk4, gk10, gk11, gk12, gk13, gk14, gk15, gk17, gkr0, gkr7, gkr8, gkr9, gkr16, gkr18, gkr19, gkr5, gkr6, ok0, ok1, ok2, ok3, gl2_0, gl2_1, gl2_2, gl3_0, gl3_1, gl3_2, gm0, gm2, gm3, gm4, gm5, gm6, gm7, gm8, gm9, gm10, gm11, gm13, gm14, gm22, gm23, gm26, gm27, gm28, gm29, gm31, gm32, gm33, gm36, gm37, gm39, gm40, gm41, gm1, gm12, gm15, gm16, gm17, gm18, gm19, gm20, gm21, gm24, gm25, gm30, gm34, gm35, gm38, rk0, sk0, rk9, sk9, rk16, sk16, rk18, sk18, rk19, sk19, rm1, sm1, rm12, sm12, rm15, sm15, rm16, sm16, rm17, sm17, rm18, sm18, rm19, sm19, rm20, sm20, rm21, sm21, rm24, sm24, rm25, sm25, rm30, sm30, rm34, sm34, rm35, sm35, rm38, sm38, pk1, pk2, pk3, pk4, pk10, pk11, pk12, pk13, pk14, pk15, pk17, pkr5, pkr6, pm0, pm2, pm3, pm4, pm5, pm6, pm7, pm8, pm9, pm10, pm11, pm13, pz13_0, pz13_1, pm14, pz14_0, pz14_1, pm22, pm23, pm26, pm27, pm28, pm29, pm31, pm32, pm33, pm36, pm37, pm39, pm40, pm41, pl2_0, pl2_1, pl2_2, pl3_0, pl3_1, pl3_2]
    rw [h15 2 (by omega) (by omega)]
  · rw [e2 17 (by omega), d3, if_pos (by omega), show 0 + (t - 0) = t by omega, c2 18 (by omega)]
  · rw [e3, if_pos (by omega), show 0 + (t - 0) = t by omega, d2 18 (by omega), c2 18 (by omega)]
