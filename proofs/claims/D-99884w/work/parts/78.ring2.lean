/-! PLAIN 24: rings: the model -/
set_option maxRecDepth 100000
theorem z_bcn : ∀ n : Fin 6, ∀ s : Fin 32, s.val < 2 ^ n.val → bc s.val ≤ n.val ∧ ∀ p : Fin 5, p.val < n.val → (s.val ||| 2 ^ p.val) < 2 ^ n.val := by decide +kernel
theorem y_bcn {n s : Nat} (hn : n ≤ 5) (hs : s < 2 ^ n) : bc s ≤ n ∧ ∀ p : Int, 0 ≤ p → p < n → (s ||| 2 ^ p.toNat) < 2 ^ n := by
  obtain ⟨h1, h2⟩ := z_bcn ⟨n, by omega⟩ ⟨s, p2_le hn hs⟩ hs
  exact ⟨h1, fun p p0 p1 => h2 ⟨p.toNat, by omega⟩ (by show p.toNat < n; omega)⟩
theorem m_copy (x : Nat) (F : Nat → Int) (P : Nat → Option Nat) (A : Nat → Int → Int) (f l : Nat → Int) (a : Nat → Int → Int) (b : fk_M) (oa ob : Nat) (ha : 9 ≤ oa ∧ oa < 24) (hb : 9 ≤ ob ∧ ob < 24) (hne : mf oa ≠ mf ob) {i j n : Int} (i0 : 0 ≤ i) (j0 : 0 ≤ j) (n0 : 0 ≤ n) (n1 : n ≤ 1000) (hi : i + n ≤ (mn oa : Int)) (hj : j + n ≤ (mn ob : Int)) (hi2 : i ≤ 10000) (hj2 : j ≤ 10000) : ∃ a', f_X2_copy (some (x + oa)) (ii i) (some (x + ob)) (ii j) (ii n) (hp x F P A f l a b) = some (hp x F P A f l a' b) ∧ (∀ k, k ≠ mf ob → a' k = a k) ∧ (∀ t, a' (mf ob) t = if j ≤ t ∧ t < j + n then a (mf oa) (i + (t - j)) else a (mf ob) t) := by
  have hL := loop_ex (fun N (_ : Unit) k (y : Nat → Int → Int) => f_X2_copy_L3 (some (x + oa)) (ii i) (some (x + ob)) (ii j) (ii n) N (ii k) (hp x F P A f l y b)) (fun u k => u) (fun u y => some (hp x F P A f l y b)) (fun u k y => (∀ m, m ≠ mf ob → y m = a m) ∧ (∀ t, y (mf ob) t = if j ≤ t ∧ t < j + k then a (mf oa) (i + (t - j)) else a (mf ob) t)) (lo := 0) (hi := n) ?_ ?_ n.toNat fk_fuel () 0 a (by omega) (by omega) (by unfold fk_fuel; omega) ⟨fun _ _ => rfl, fun t => by rw [if_neg (by omega)]⟩
  · obtain ⟨y, g1, g2, g3⟩ := hL
    exact ⟨y, g1, g2, g3⟩
  · intro N u y hy
    try dsimp only
    rw [f_X2_copy_L3, if_pos (by rw [ii_le (by omega) (by omega)]; omega)]
  · intro N u k y k1 k2 hy
    have e1 := rmG x F P A f l y b oa ha.1 ha.2 (i := i + k) (by omega) (by omega) (by omega)
    have e2 := smG x F P A f l y b ob hb.1 hb.2 (i := j + k) (y (mf oa) (i + k)) (by omega) (by omega) (by omega)
    refine ⟨u2 y (mf ob) (j + k) (y (mf oa) (i + k)), ⟨fun m hm => (u2_nk _ _ _ hm).trans (hy.1 m hm), fun t => ?_⟩, ?_⟩
    · by_cases ht : t = j + k
      · subst ht
        rw [u2_eq, if_pos (by omega), hy.1 _ hne, show i + (j + k - j) = i + k by omega]
      · rw [u2_ni _ _ _ ht, hy.2 t]
        by_cases hc : j ≤ t ∧ t < j + k
        · rw [if_pos hc, if_pos (by omega)]
        · rw [if_neg hc, if_neg (by omega)]
    · try dsimp only
      rw [f_X2_copy_L3, if_neg (by rw [ii_le (by omega) (by omega)]; omega), ii_add, e1, Option.bind_some, ii_add, e2, Option.bind_some, show (1 : Int32) = ii 1 from rfl, ii_add]
/-- what a try keeps -/
def Tk (a : Nat → Int → Int) (k : Nat) (f : Nat → Int) (y : Nat → Int → Int) (f' : Nat → Int) (y' : Nat → Int → Int) : Prop := (∀ j, j ≠ 36 → f' j = f j) ∧ (∀ j, j ≠ 34 → j ≠ 35 → y' j = a j) ∧ (∀ t : Int, 0 ≤ t → t < k → y' 34 t = y 34 t)
/-- it finds nothing, or nothing shorter than B -/
def Tx (n B : Int) (f : Nat → Int) (y : Nat → Int → Int) (f' : Nat → Int) (y' : Nat → Int → Int) : Prop := (f' 36 = f 36 ∧ y' 35 = y 35) ∨ (B ≤ f' 36 ∧ f' 36 ≤ n ∧ f' 36 < f 36 ∧ 0 ≤ f' 36)
theorem m_tryX (x : Nat) (F : Nat → Int) (P : Nat → Option Nat) (A : Nat → Int → Int) (f l : Nat → Int) (a : Nat → Int → Int) (b : fk_M) (hR : Rg (a 15) (a 17) (a 19)) {p : Int} (p0 : 0 ≤ p) (p1 : p < a 15 2) : ∀ (D k met : Nat) (f : Nat → Int) (y : Nat → Int → Int) (B : Int), k + D = 9 → 1 ≤ k → bc met = k → met < 2 ^ (a 15 2).toNat → (∀ j, j ≠ 34 → j ≠ 35 → y j = a j) → y 34 0 = p → (0 ≤ y 34 ((k : Int) - 1) ∧ y 34 ((k : Int) - 1) < a 15 2) → (0 ≤ f 36 ∧ f 36 ≤ 100000000) → (∀ j : Nat, 1 ≤ j → wk (a 15) (a 19) j (y 34 ((k : Int) - 1)) p → B ≤ (k : Int) - 1 + j) → ∃ f' y', f_X2_tryRing D (some (x + 8)) (ii k) (ii met) (hp x F P A f l y b) = some (hp x F P A f' l y' b) ∧ Tk a k f y f' y' ∧ Tx (a 15 2) B f y f' y' := by
  have hw := hR.wd
  have hn : (a 15 2).toNat ≤ 5 := by omega
  intro D
  induction D with
  | zero =>
    intro k met f y B h1 h2 h3 h4
    have := (y_bcn hn h4).1
    omega
  | succ D ih =>
    intro k met f y B h1 h2 h3 h4 h5 h6 h7 h8 h9
    have hk5 := (y_bcn hn h4).1
    have hm32 := p2_le hn h4
    have e15 := h5 15 (by omega) (by omega)
    have e19 := h5 19 (by omega) (by omega)
    rw [f_X2_tryRing, gm36, Option.bind_some]
    by_cases hlt : (k : Int) < f 36
    rotate_left
    · have hc : ¬ ii (k : Int) < ii (f 36) := by
        rw [ii_lt (by omega) (by omega)]
        exact hlt
      rw [if_neg hc]
      exact ⟨f, y, rfl, ⟨fun _ _ => rfl, h5, fun _ _ _ => rfl⟩, Or.inl ⟨rfl, rfl⟩⟩
    have hc : ii (k : Int) < ii (f 36) := by
      rw [ii_lt (by omega) (by omega)]
      exact hlt
    rw [if_pos hc]
    have hLoop : ∃ f' y', f_X2_tryRing_J55 (f_X2_tryRing D) (some (x + 8)) (ii k) (ii met) (hp x F P A f l y b) = some (hp x F P A f' l y' b) ∧ Tk a k f y f' y' ∧ Tx (a 15 2) B f y f' y' := by
      have hL := loop_ex (fun N (_ : Unit) q (z : (Nat → Int) × (Nat → Int → Int)) => f_X2_tryRing_L57 (f_X2_tryRing D) (some (x + 8)) (ii k) (ii met) N (ii q) (hp x F P A z.1 l z.2 b)) (fun u k => u) (fun u z => some (hp x F P A z.1 l z.2 b)) (fun u q z => Tk a k f y z.1 z.2 ∧ Tx (a 15 2) B f y z.1 z.2) (lo := 0) (hi := a 15 2) ?_ ?_ (a 15 2).toNat fk_fuel () 0 (f, y) (by omega) (by omega) (by unfold fk_fuel; omega) ⟨⟨fun _ _ => rfl, h5, fun _ _ _ => rfl⟩, Or.inl ⟨rfl, rfl⟩⟩
      · obtain ⟨⟨f', y'⟩, g1, g2, g3⟩ := hL
        exact ⟨f', y', g1, g2, g3⟩
      · rintro N u ⟨f', y'⟩ ⟨⟨t1, t2, t3⟩, t4⟩
        have z15 := t2 15 (by omega) (by omega)
        dsimp only at z15 ⊢
        rw [f_X2_tryRing_L57]
        simp (disch := first | omega | assumption) only [Option.bind_some, bn2_some, ii_lit, ii_neg, ii_add, ii_sub, ii_mul, ii_le, ii_lt, ii_eq, ii_ite, ii_or, ii_and, ii_bit, ii_rem, ii_div, b0_, b1_, b2_, b3_, true_and, and_true, u1_eq, u1_ne, u2_eq, u2_nk, u2_ni, uP_eq, uP_ne, gk1, gk2, gk3, gk4, gk10, gk11, gk12, gk13, gk14, gk15, gk17, gkr0, gkr7, gkr8, gkr9, gkr16, gkr18, gkr19, gkr5, gkr6, ok0, ok1, ok2, ok3, gl2_0, gl2_1, gl2_2, gl3_0, gl3_1, gl3_2, gm0, gm2, gm3, gm4, gm5, gm6, gm7, gm8, gm9, gm10, gm11, gm13, gm14, gm22, gm23, gm26, gm27, gm28, gm29, gm31, gm32, gm33, gm36, gm37, gm39, gm40, gm41, gm1, gm12, gm15, gm16, gm17, gm18, gm19, gm20, gm21, gm24, gm25, gm30, gm34, gm35, gm38, rk0, sk0, rk9, sk9, rk16, sk16, rk18, sk18, rk19, sk19, rm1, sm1, rm12, sm12, rm15, sm15, rm16, sm16, rm17, sm17, rm18, sm18, rm19, sm19, rm20, sm20, rm21, sm21, rm24, sm24, rm25, sm25, rm30, sm30, rm34, sm34, rm35, sm35, rm38, sm38, pk1, pk2, pk3, pk4, pk10, pk11, pk12, pk13, pk14, pk15, pk17, pkr5, pkr6, pm0, pm2, pm3, pm4, pm5, pm6, pm7, pm8, pm9, pm10, pm11, pm13, pz13_0, pz13_1, pm14, pz14_0, pz14_1, pm22, pm23, pm26, pm27, pm28, pm29, pm31, pm32, pm33, pm36, pm37, pm39, pm40, pm41, pl2_0, pl2_1, pl2_2, pl3_0, pl3_1, pl3_2, z15]
        rw [if_pos (by omega)]
      · rintro N u q ⟨f', y'⟩ q0 q1 ⟨⟨t1, t2, t3⟩, t4⟩
        dsimp only at t1 t2 t3 t4
        have z15 := t2 15 (by omega) (by omega)
        have z19 := t2 19 (by omega) (by omega)
        have zl : y' 34 ((k : Int) - 1) = y 34 ((k : Int) - 1) := t3 _ (by omega) (by omega)
        have hb2 := m_hasBit (hp x F P A f' l y' b) (met : Int) q
        have hde := m_debtOf x F P A f' l y' b (p := y' 34 ((k : Int) - 1)) (q := q) (by omega) (by omega) q0 (by omega)
        rw [z19, zl] at hde
        have hd1 := (hR.ds h7.1 h7.2 q0 q1).1
        have ek : ii (k : Int) - ii 1 = ii ((k : Int) - 1) := ii_sub ..
        by_cases hc1 : hb (met : Int) q
        · refine ⟨(f', y'), ⟨⟨t1, t2, t3⟩, t4⟩, ?_⟩
          dsimp only
          rw [f_X2_tryRing_L57]
          unfold f_X2_tryRing_J113
          rw [hb2, if_pos hc1]
          simp (disch := first | omega | assumption) only [Option.bind_some, bn2_some, ii_lit, ii_neg, ii_add, ii_sub, ii_mul, ii_le, ii_lt, ii_eq, ii_ite, ii_or, ii_and, ii_bit, ii_rem, ii_div, b0_, b1_, b2_, b3_, true_and, and_true, u1_eq, u1_ne, u2_eq, u2_nk, u2_ni, uP_eq, uP_ne, gk1, gk2, gk3, gk4, gk10, gk11, gk12, gk13, gk14, gk15, gk17, gkr0, gkr7, gkr8, gkr9, gkr16, gkr18, gkr19, gkr5, gkr6, ok0, ok1, ok2, ok3, gl2_0, gl2_1, gl2_2, gl3_0, gl3_1, gl3_2, gm0, gm2, gm3, gm4, gm5, gm6, gm7, gm8, gm9, gm10, gm11, gm13, gm14, gm22, gm23, gm26, gm27, gm28, gm29, gm31, gm32, gm33, gm36, gm37, gm39, gm40, gm41, gm1, gm12, gm15, gm16, gm17, gm18, gm19, gm20, gm21, gm24, gm25, gm30, gm34, gm35, gm38, rk0, sk0, rk9, sk9, rk16, sk16, rk18, sk18, rk19, sk19, rm1, sm1, rm12, sm12, rm15, sm15, rm16, sm16, rm17, sm17, rm18, sm18, rm19, sm19, rm20, sm20, rm21, sm21, rm24, sm24, rm25, sm25, rm30, sm30, rm34, sm34, rm35, sm35, rm38, sm38, pk1, pk2, pk3, pk4, pk10, pk11, pk12, pk13, pk14, pk15, pk17, pkr5, pkr6, pm0, pm2, pm3, pm4, pm5, pm6, pm7, pm8, pm9, pm10, pm11, pm13, pz13_0, pz13_1, pm14, pz14_0, pz14_1, pm22, pm23, pm26, pm27, pm28, pm29, pm31, pm32, pm33, pm36, pm37, pm39, pm40, pm41, pl2_0, pl2_1, pl2_2, pl3_0, pl3_1, pl3_2, z15]
          rw [if_neg (by omega), if_neg (by omega)]
        by_cases hc2 : a 19 (10 + 5 * y 34 ((k : Int) - 1) + q) = 0
        · refine ⟨(f', y'), ⟨⟨t1, t2, t3⟩, t4⟩, ?_⟩
          dsimp only
          rw [f_X2_tryRing_L57]
          unfold f_X2_tryRing_J113
          rw [hb2, if_neg hc1]
          rw [hc2] at hde
          simp (disch := first | omega | assumption) only [Option.bind_some, bn2_some, ii_lit, ii_neg, ii_add, ii_sub, ii_mul, ii_le, ii_lt, ii_eq, ii_ite, ii_or, ii_and, ii_bit, ii_rem, ii_div, b0_, b1_, b2_, b3_, true_and, and_true, u1_eq, u1_ne, u2_eq, u2_nk, u2_ni, uP_eq, uP_ne, gk1, gk2, gk3, gk4, gk10, gk11, gk12, gk13, gk14, gk15, gk17, gkr0, gkr7, gkr8, gkr9, gkr16, gkr18, gkr19, gkr5, gkr6, ok0, ok1, ok2, ok3, gl2_0, gl2_1, gl2_2, gl3_0, gl3_1, gl3_2, gm0, gm2, gm3, gm4, gm5, gm6, gm7, gm8, gm9, gm10, gm11, gm13, gm14, gm22, gm23, gm26, gm27, gm28, gm29, gm31, gm32, gm33, gm36, gm37, gm39, gm40, gm41, gm1, gm12, gm15, gm16, gm17, gm18, gm19, gm20, gm21, gm24, gm25, gm30, gm34, gm35, gm38, rk0, sk0, rk9, sk9, rk16, sk16, rk18, sk18, rk19, sk19, rm1, sm1, rm12, sm12, rm15, sm15, rm16, sm16, rm17, sm17, rm18, sm18, rm19, sm19, rm20, sm20, rm21, sm21, rm24, sm24, rm25, sm25, rm30, sm30, rm34, sm34, rm35, sm35, rm38, sm38, pk1, pk2, pk3, pk4, pk10, pk11, pk12, pk13, pk14, pk15, pk17, pkr5, pkr6, pm0, pm2, pm3, pm4, pm5, pm6, pm7, pm8, pm9, pm10, pm11, pm13, pz13_0, pz13_1, pm14, pz14_0, pz14_1, pm22, pm23, pm26, pm27, pm28, pm29, pm31, pm32, pm33, pm36, pm37, pm39, pm40, pm41, pl2_0, pl2_1, pl2_2, pl3_0, pl3_1, pl3_2, z15, zl, hde]
          rw [if_neg (by omega), if_pos trivial, if_pos trivial]
        · obtain ⟨b1, b2, b3, b4⟩ := y_add hm32 q0 (show q < 5 by omega) hc1
          have b5 := (y_bcn hn h4).2 q q0 (by omega)
          have hk6 := (y_bcn hn b5).1
          have hf36 : 0 ≤ f' 36 ∧ f' 36 ≤ 100000000 := by
            rcases t4 with ⟨r1, -⟩ | ⟨r1, r2, r3, r4⟩ <;> omega
          obtain ⟨f2, y2, g1, ⟨g2, g3, g4⟩, g5⟩ := ih (k + 1) (met ||| 2 ^ q.toNat) f' (u2 y' 34 k q) B (by omega) (by omega) (by omega) b5 (fun j j1 j2 => (u2_nk _ _ _ j1).trans (t2 j j1 j2)) (by rw [u2_ni _ _ _ (by omega), t3 0 (by omega) (by omega)]; exact h6) (by
            rw [show ((k + 1 : Nat) : Int) - 1 = k by omega, u2_eq]
            exact ⟨q0, q1⟩) hf36 (fun j j1 j2 => by
            rw [show ((k + 1 : Nat) : Int) - 1 = k by omega, u2_eq] at j2
            have := h9 (j + 1) (by omega) ⟨q, ⟨⟨q0, q1⟩, hc2⟩, j2⟩
            omega)
          refine ⟨(f2, y2), ⟨⟨fun j hj => (g2 j hj).trans (t1 j hj), g3, fun t tt1 tt2 => ?_⟩, ?_⟩, ?_⟩
          · dsimp only
            rw [g4 t tt1 (by omega), u2_ni _ _ _ (by omega)]
            exact t3 t tt1 tt2
          · have e35 : u2 y' 34 k q 35 = y' 35 := u2_nk _ _ _ (by omega)
            rcases g5 with ⟨r1, r2⟩ | ⟨r1, r2, r3, r4⟩
            · rw [e35] at r2
              rcases t4 with ⟨s1, s2⟩ | ⟨s1, s2, s3, s4⟩
              · exact Or.inl ⟨r1.trans s1, r2.trans s2⟩
              · refine Or.inr ?_
                dsimp only
                rw [r1]
                exact ⟨s1, s2, s3, s4⟩
            · refine Or.inr ⟨r1, r2, ?_, r4⟩
              dsimp only
              rcases t4 with ⟨s1, s2⟩ | ⟨s1, s2, s3, s4⟩ <;> omega
          · have g1' : f_X2_tryRing D (some (x + 8)) (ii ((k : Int) + 1)) (ii ((met ||| 2 ^ q.toNat : Nat) : Int)) (hp x F P A f' l (u2 y' 34 k q) b) = some (hp x F P A f2 l y2 b) := g1
            dsimp only
            rw [f_X2_tryRing_L57]
            unfold f_X2_tryRing_J113
            rw [hb2, if_neg hc1, b1]
            simp (disch := first | omega | assumption) only [Option.bind_some, bn2_some, ii_lit, ii_neg, ii_add, ii_sub, ii_mul, ii_le, ii_lt, ii_eq, ii_ite, ii_or, ii_and, ii_bit, ii_rem, ii_div, b0_, b1_, b2_, b3_, true_and, and_true, u1_eq, u1_ne, u2_eq, u2_nk, u2_ni, uP_eq, uP_ne, gk1, gk2, gk3, gk4, gk10, gk11, gk12, gk13, gk14, gk15, gk17, gkr0, gkr7, gkr8, gkr9, gkr16, gkr18, gkr19, gkr5, gkr6, ok0, ok1, ok2, ok3, gl2_0, gl2_1, gl2_2, gl3_0, gl3_1, gl3_2, gm0, gm2, gm3, gm4, gm5, gm6, gm7, gm8, gm9, gm10, gm11, gm13, gm14, gm22, gm23, gm26, gm27, gm28, gm29, gm31, gm32, gm33, gm36, gm37, gm39, gm40, gm41, gm1, gm12, gm15, gm16, gm17, gm18, gm19, gm20, gm21, gm24, gm25, gm30, gm34, gm35, gm38, rk0, sk0, rk9, sk9, rk16, sk16, rk18, sk18, rk19, sk19, rm1, sm1, rm12, sm12, rm15, sm15, rm16, sm16, rm17, sm17, rm18, sm18, rm19, sm19, rm20, sm20, rm21, sm21, rm24, sm24, rm25, sm25, rm30, sm30, rm34, sm34, rm35, sm35, rm38, sm38, pk1, pk2, pk3, pk4, pk10, pk11, pk12, pk13, pk14, pk15, pk17, pkr5, pkr6, pm0, pm2, pm3, pm4, pm5, pm6, pm7, pm8, pm9, pm10, pm11, pm13, pz13_0, pz13_1, pm14, pz14_0, pz14_1, pm22, pm23, pm26, pm27, pm28, pm29, pm31, pm32, pm33, pm36, pm37, pm39, pm40, pm41, pl2_0, pl2_1, pl2_2, pl3_0, pl3_1, pl3_2, z15, zl, hde, g1']
            rw [if_neg (by omega), if_pos trivial, if_neg hc2]
    by_cases hk1 : k = 1
    · have hc2 : ii (k : Int) ≤ 1 := by
        rw [show (1 : Int32) = ii 1 from rfl, ii_le (by omega) (by omega)]
        omega
      rw [if_pos hc2]
      exact hLoop
    have hc2 : ¬ ii (k : Int) ≤ 1 := by
      rw [show (1 : Int32) = ii 1 from rfl, ii_le (by omega) (by omega)]
      omega
    have hde := m_debtOf x F P A f l y b (p := y 34 ((k : Int) - 1)) (q := p) (by omega) (by omega) p0 (by omega)
    rw [e19] at hde
    have hd1 := (hR.ds h7.1 h7.2 p0 p1).1
    rw [if_neg hc2]
    by_cases hf : a 19 (10 + 5 * y 34 ((k : Int) - 1) + p) = 0
    · rw [hf] at hde
      simp (disch := first | omega | assumption) only [Option.bind_some, bn2_some, ii_lit, ii_neg, ii_add, ii_sub, ii_mul, ii_le, ii_lt, ii_eq, ii_ite, ii_or, ii_and, ii_bit, ii_rem, ii_div, b0_, b1_, b2_, b3_, true_and, and_true, u1_eq, u1_ne, u2_eq, u2_nk, u2_ni, uP_eq, uP_ne, gk1, gk2, gk3, gk4, gk10, gk11, gk12, gk13, gk14, gk15, gk17, gkr0, gkr7, gkr8, gkr9, gkr16, gkr18, gkr19, gkr5, gkr6, ok0, ok1, ok2, ok3, gl2_0, gl2_1, gl2_2, gl3_0, gl3_1, gl3_2, gm0, gm2, gm3, gm4, gm5, gm6, gm7, gm8, gm9, gm10, gm11, gm13, gm14, gm22, gm23, gm26, gm27, gm28, gm29, gm31, gm32, gm33, gm36, gm37, gm39, gm40, gm41, gm1, gm12, gm15, gm16, gm17, gm18, gm19, gm20, gm21, gm24, gm25, gm30, gm34, gm35, gm38, rk0, sk0, rk9, sk9, rk16, sk16, rk18, sk18, rk19, sk19, rm1, sm1, rm12, sm12, rm15, sm15, rm16, sm16, rm17, sm17, rm18, sm18, rm19, sm19, rm20, sm20, rm21, sm21, rm24, sm24, rm25, sm25, rm30, sm30, rm34, sm34, rm35, sm35, rm38, sm38, pk1, pk2, pk3, pk4, pk10, pk11, pk12, pk13, pk14, pk15, pk17, pkr5, pkr6, pm0, pm2, pm3, pm4, pm5, pm6, pm7, pm8, pm9, pm10, pm11, pm13, pz13_0, pz13_1, pm14, pz14_0, pz14_1, pm22, pm23, pm26, pm27, pm28, pm29, pm31, pm32, pm33, pm36, pm37, pm39, pm40, pm41, pl2_0, pl2_1, pl2_2, pl3_0, pl3_1, pl3_2, h6, hde]
      rw [if_pos (by omega)]
      exact hLoop
    · have hB := h9 1 (by omega) ⟨p, ⟨⟨p0, p1⟩, hf⟩, rfl⟩
      obtain ⟨y', g1, g2, g3⟩ := m_copy x F P A (u1 f 36 k) l y b 21 22 (by omega) (by omega) (by decide) (i := 0) (j := 0) (n := 5) (by omega) (by omega) (by omega) (by omega) (by decide) (by decide) (by omega) (by omega)
      have g2 : ∀ j, j ≠ 35 → y' j = y j := g2
      refine ⟨u1 f 36 k, y', ?_, ⟨fun j hj => u1_ne _ _ hj, fun j j1 j2 => (g2 j j2).trans (h5 j j1 j2), fun t _ _ => by rw [g2 34 (by omega)]⟩, Or.inr ⟨by rw [u1_eq]; omega, by rw [u1_eq]; omega, by rw [u1_eq]; exact hlt, by rw [u1_eq]; omega⟩⟩
      simp (disch := first | omega | assumption) only [Option.bind_some, bn2_some, ii_lit, ii_neg, ii_add, ii_sub, ii_mul, ii_le, ii_lt, ii_eq, ii_ite, ii_or, ii_and, ii_bit, ii_rem, ii_div, b0_, b1_, b2_, b3_, true_and, and_true, u1_eq, u1_ne, u2_eq, u2_nk, u2_ni, uP_eq, uP_ne, gk1, gk2, gk3, gk4, gk10, gk11, gk12, gk13, gk14, gk15, gk17, gkr0, gkr7, gkr8, gkr9, gkr16, gkr18, gkr19, gkr5, gkr6, ok0, ok1, ok2, ok3, gl2_0, gl2_1, gl2_2, gl3_0, gl3_1, gl3_2, gm0, gm2, gm3, gm4, gm5, gm6, gm7, gm8, gm9, gm10, gm11, gm13, gm14, gm22, gm23, gm26, gm27, gm28, gm29, gm31, gm32, gm33, gm36, gm37, gm39, gm40, gm41, gm1, gm12, gm15, gm16, gm17, gm18, gm19, gm20, gm21, gm24, gm25, gm30, gm34, gm35, gm38, rk0, sk0, rk9, sk9, rk16, sk16, rk18, sk18, rk19, sk19, rm1, sm1, rm12, sm12, rm15, sm15, rm16, sm16, rm17, sm17, rm18, sm18, rm19, sm19, rm20, sm20, rm21, sm21, rm24, sm24, rm25, sm25, rm30, sm30, rm34, sm34, rm35, sm35, rm38, sm38, pk1, pk2, pk3, pk4, pk10, pk11, pk12, pk13, pk14, pk15, pk17, pkr5, pkr6, pm0, pm2, pm3, pm4, pm5, pm6, pm7, pm8, pm9, pm10, pm11, pm13, pz13_0, pz13_1, pm14, pz14_0, pz14_1, pm22, pm23, pm26, pm27, pm28, pm29, pm31, pm32, pm33, pm36, pm37, pm39, pm40, pm41, pl2_0, pl2_1, pl2_2, pl3_0, pl3_1, pl3_2, h6, hde, g1]
      rw [if_neg (by omega)]
theorem m_tryG (x : Nat) (F : Nat → Int) (P : Nat → Option Nat) (A : Nat → Int → Int) (f l : Nat → Int) (a : Nat → Int → Int) (b : fk_M) (hR : Rg (a 15) (a 17) (a 19)) {p : Int} (p0 : 0 ≤ p) (p1 : p < a 15 2) {L : Nat} (hL : dT (a 15) (a 19) p p (a 15 2) = L) : ∀ (e k D met : Nat) (f : Nat → Int) (y : Nat → Int → Int), k + e = L → k + D = 9 → 1 ≤ k → bc met = k → met < 2 ^ (a 15 2).toNat → (∀ q, 0 ≤ q → q < 5 → (hb (met : Int) q ↔ ∃ i : Nat, i < k ∧ q = gp (a 15) (a 19) p i)) → (∀ j, j ≠ 34 → j ≠ 35 → y j = a j) → (∀ i : Nat, i < k → y 34 i = gp (a 15) (a 19) p i) → (L : Int) < f 36 → f 36 ≤ 100000000 → ∃ f' y', f_X2_tryRing D (some (x + 8)) (ii k) (ii met) (hp x F P A f l y b) = some (hp x F P A f' l y' b) ∧ Tk a k f y f' y' ∧ f' 36 = L ∧ ∀ i : Nat, i < L → y' 35 i = gp (a 15) (a 19) p i := by
  have hw := hR.wd
  have hn : (a 15 2).toNat ≤ 5 := by omega
  obtain ⟨hL2, hLn, hG⟩ := gp_all hR p0 p1 hL
  intro e
  induction e with
  | zero =>
    intro k D met f y h1 hD h2 h3 h4 hmb h5 h6 h7 h8
    obtain ⟨D, rfl⟩ : ∃ M, D = M + 1 := ⟨D - 1, by omega⟩
    obtain rfl : k = L := by omega
    have hGk := hG (k - 1) (by omega)
    have hE : Ed (a 15) (a 19) (gp (a 15) (a 19) p (k - 1)) p := by
      have := hGk.2.1
      rw [show k - (k - 1) = 0 + 1 by omega] at this
      obtain ⟨r, r1, r2⟩ := this
      have r2 : r = p := r2
      subst r2
      exact r1
    have el : y 34 ((k : Int) - 1) = gp (a 15) (a 19) p (k - 1) := by
      have := h6 (k - 1) (by omega)
      rwa [show ((k - 1 : Nat) : Int) = (k : Int) - 1 by omega] at this
    have e0 : y 34 0 = p := h6 0 (by omega)
    have e19 := h5 19 (by omega) (by omega)
    have hde := m_debtOf x F P A f l y b (p := gp (a 15) (a 19) p (k - 1)) (q := p) hGk.1.1 (by have := hGk.1.2; omega) p0 (by omega)
    rw [e19] at hde
    have hd1 := (hR.ds hGk.1.1 hGk.1.2 p0 p1).1
    have hd2 := hE.2
    obtain ⟨y', g1, g2, g3⟩ := m_copy x F P A (u1 f 36 k) l y b 21 22 (by omega) (by omega) (by decide) (i := 0) (j := 0) (n := 5) (by omega) (by omega) (by omega) (by omega) (by decide) (by decide) (by omega) (by omega)
    have g2 : ∀ j, j ≠ 35 → y' j = y j := g2
    have g3 : ∀ t, y' 35 t = if 0 ≤ t ∧ t < 0 + 5 then y 34 (0 + (t - 0)) else y 35 t := g3
    refine ⟨u1 f 36 k, y', ?_, ⟨fun j hj => u1_ne _ _ hj, fun j j1 j2 => (g2 j j2).trans (h5 j j1 j2), fun t _ _ => by rw [g2 34 (by omega)]⟩, u1_eq .., fun i hi => ?_⟩
    · have hc : ii (k : Int) < ii (f 36) := by
        rw [ii_lt (by omega) (by omega)]
        exact h7
      have hc2 : ¬ ii (k : Int) ≤ 1 := by
        rw [show (1 : Int32) = ii 1 from rfl, ii_le (by omega) (by omega)]
        omega
      rw [f_X2_tryRing, gm36, Option.bind_some, if_pos hc, if_neg hc2]
      simp (disch := first | omega | assumption) only [Option.bind_some, bn2_some, ii_lit, ii_neg, ii_add, ii_sub, ii_mul, ii_le, ii_lt, ii_eq, ii_ite, ii_or, ii_and, ii_bit, ii_rem, ii_div, b0_, b1_, b2_, b3_, true_and, and_true, u1_eq, u1_ne, u2_eq, u2_nk, u2_ni, uP_eq, uP_ne, gk1, gk2, gk3, gk4, gk10, gk11, gk12, gk13, gk14, gk15, gk17, gkr0, gkr7, gkr8, gkr9, gkr16, gkr18, gkr19, gkr5, gkr6, ok0, ok1, ok2, ok3, gl2_0, gl2_1, gl2_2, gl3_0, gl3_1, gl3_2, gm0, gm2, gm3, gm4, gm5, gm6, gm7, gm8, gm9, gm10, gm11, gm13, gm14, gm22, gm23, gm26, gm27, gm28, gm29, gm31, gm32, gm33, gm36, gm37, gm39, gm40, gm41, gm1, gm12, gm15, gm16, gm17, gm18, gm19, gm20, gm21, gm24, gm25, gm30, gm34, gm35, gm38, rk0, sk0, rk9, sk9, rk16, sk16, rk18, sk18, rk19, sk19, rm1, sm1, rm12, sm12, rm15, sm15, rm16, sm16, rm17, sm17, rm18, sm18, rm19, sm19, rm20, sm20, rm21, sm21, rm24, sm24, rm25, sm25, rm30, sm30, rm34, sm34, rm35, sm35, rm38, sm38, pk1, pk2, pk3, pk4, pk10, pk11, pk12, pk13, pk14, pk15, pk17, pkr5, pkr6, pm0, pm2, pm3, pm4, pm5, pm6, pm7, pm8, pm9, pm10, pm11, pm13, pz13_0, pz13_1, pm14, pz14_0, pz14_1, pm22, pm23, pm26, pm27, pm28, pm29, pm31, pm32, pm33, pm36, pm37, pm39, pm40, pm41, pl2_0, pl2_1, pl2_2, pl3_0, pl3_1, pl3_2, el, e0, hde, g1]
      rw [if_neg (by omega)]
    · rw [g3, if_pos (by omega), show 0 + ((i : Int) - 0) = i by omega]
      exact h6 i hi
  | succ e ih =>
    intro k D met f y h1 hD h2 h3 h4 hmb h5 h6 h7 h8
    obtain ⟨D, rfl⟩ : ∃ M, D = M + 1 := ⟨D - 1, by omega⟩
    have hGk := hG (k - 1) (by omega)
    obtain ⟨n1, n2, n3, -⟩ := gp_on hR p0 p1 hL (show k - 1 + 1 < L by omega) hGk
    rw [show k - 1 + 1 = k by omega] at n1 n2 n3
    have hGn := hG k (by omega)
    have el : y 34 ((k : Int) - 1) = gp (a 15) (a 19) p (k - 1) := by
      have := h6 (k - 1) (by omega)
      rwa [show ((k - 1 : Nat) : Int) = (k : Int) - 1 by omega] at this
    have e0 : y 34 0 = p := h6 0 (by omega)
    have e19 := h5 19 (by omega) (by omega)
    have hm32 := p2_le hn h4
    have hnE : a 19 (10 + 5 * gp (a 15) (a 19) p (k - 1) + p) = 0 := by
      by_cases h : a 19 (10 + 5 * gp (a 15) (a 19) p (k - 1) + p) = 0
      · exact h
      · exact absurd (show wk (a 15) (a 19) 1 (gp (a 15) (a 19) p (k - 1)) p from ⟨p, ⟨⟨p0, p1⟩, h⟩, rfl⟩) (hGk.2.2 1 (by omega) (by omega))
    have hmin : ∀ q j, Ed (a 15) (a 19) (gp (a 15) (a 19) p (k - 1)) q → 1 ≤ j → wk (a 15) (a 19) j q p → L - k ≤ j := by
      intro q j hE j1 hwk
      by_cases hj : j < L - k
      · exact absurd (show wk (a 15) (a 19) (j + 1) (gp (a 15) (a 19) p (k - 1)) p from ⟨q, hE, hwk⟩) (hGk.2.2 (j + 1) (by omega) (by omega))
      · omega
    have hnm : ¬ hb (met : Int) (gp (a 15) (a 19) p k) := by
      intro h
      obtain ⟨i, i1, i2⟩ := (hmb _ hGn.1.1 (by have := hGn.1.2; omega)).mp h
      have w1 := hGn.2.1
      rw [i2] at w1
      exact (hG i (by omega)).2.2 (L - k) (by omega) (by omega) w1
    have hLoop : ∃ f' y', f_X2_tryRing_J55 (f_X2_tryRing D) (some (x + 8)) (ii k) (ii met) (hp x F P A f l y b) = some (hp x F P A f' l y' b) ∧ Tk a k f y f' y' ∧ f' 36 = L ∧ ∀ i : Nat, i < L → y' 35 i = gp (a 15) (a 19) p i := by
      have hLp := loop_ex (fun N (_ : Unit) q (z : (Nat → Int) × (Nat → Int → Int)) => f_X2_tryRing_L57 (f_X2_tryRing D) (some (x + 8)) (ii k) (ii met) N (ii q) (hp x F P A z.1 l z.2 b)) (fun u k => u) (fun u z => some (hp x F P A z.1 l z.2 b)) (fun u q z => Tk a k f y z.1 z.2 ∧ z.1 36 ≤ 100000000 ∧ (q ≤ gp (a 15) (a 19) p k → (L : Int) < z.1 36) ∧ (gp (a 15) (a 19) p k < q → z.1 36 = L ∧ ∀ i : Nat, i < L → z.2 35 i = gp (a 15) (a 19) p i)) (lo := 0) (hi := a 15 2) ?_ ?_ (a 15 2).toNat fk_fuel () 0 (f, y) (by omega) (by omega) (by unfold fk_fuel; omega) ⟨⟨fun _ _ => rfl, h5, fun _ _ _ => rfl⟩, h8, fun _ => h7, fun h => by have := hGn.1.1; omega⟩
      · obtain ⟨⟨f', y'⟩, g1, g2, g3, g4, g5⟩ := hLp
        obtain ⟨g6, g7⟩ := g5 hGn.1.2
        exact ⟨f', y', g1, g2, g6, g7⟩
      · rintro N u ⟨f', y'⟩ ⟨⟨t1, t2, t3⟩, t4⟩
        have z15 := t2 15 (by omega) (by omega)
        dsimp only at z15 ⊢
        rw [f_X2_tryRing_L57]
        simp (disch := first | omega | assumption) only [Option.bind_some, bn2_some, ii_lit, ii_neg, ii_add, ii_sub, ii_mul, ii_le, ii_lt, ii_eq, ii_ite, ii_or, ii_and, ii_bit, ii_rem, ii_div, b0_, b1_, b2_, b3_, true_and, and_true, u1_eq, u1_ne, u2_eq, u2_nk, u2_ni, uP_eq, uP_ne, gk1, gk2, gk3, gk4, gk10, gk11, gk12, gk13, gk14, gk15, gk17, gkr0, gkr7, gkr8, gkr9, gkr16, gkr18, gkr19, gkr5, gkr6, ok0, ok1, ok2, ok3, gl2_0, gl2_1, gl2_2, gl3_0, gl3_1, gl3_2, gm0, gm2, gm3, gm4, gm5, gm6, gm7, gm8, gm9, gm10, gm11, gm13, gm14, gm22, gm23, gm26, gm27, gm28, gm29, gm31, gm32, gm33, gm36, gm37, gm39, gm40, gm41, gm1, gm12, gm15, gm16, gm17, gm18, gm19, gm20, gm21, gm24, gm25, gm30, gm34, gm35, gm38, rk0, sk0, rk9, sk9, rk16, sk16, rk18, sk18, rk19, sk19, rm1, sm1, rm12, sm12, rm15, sm15, rm16, sm16, rm17, sm17, rm18, sm18, rm19, sm19, rm20, sm20, rm21, sm21, rm24, sm24, rm25, sm25, rm30, sm30, rm34, sm34, rm35, sm35, rm38, sm38, pk1, pk2, pk3, pk4, pk10, pk11, pk12, pk13, pk14, pk15, pk17, pkr5, pkr6, pm0, pm2, pm3, pm4, pm5, pm6, pm7, pm8, pm9, pm10, pm11, pm13, pz13_0, pz13_1, pm14, pz14_0, pz14_1, pm22, pm23, pm26, pm27, pm28, pm29, pm31, pm32, pm33, pm36, pm37, pm39, pm40, pm41, pl2_0, pl2_1, pl2_2, pl3_0, pl3_1, pl3_2, z15]
        rw [if_pos (by omega)]
      · rintro N u q ⟨f', y'⟩ q0 q1 ⟨⟨t1, t2, t3⟩, t8, t4, t5⟩
        dsimp only at t1 t2 t3 t4 t5 t8
        have z15 := t2 15 (by omega) (by omega)
        have z19 := t2 19 (by omega) (by omega)
        have zl : y' 34 ((k : Int) - 1) = gp (a 15) (a 19) p (k - 1) := (t3 _ (by omega) (by omega)).trans el
        have hb2 := m_hasBit (hp x F P A f' l y' b) (met : Int) q
        have hg5 := hGk.1.2
        have hde := m_debtOf x F P A f' l y' b (p := gp (a 15) (a 19) p (k - 1)) (q := q) hGk.1.1 (by omega) q0 (by omega)
        rw [z19] at hde
        have hd1 := (hR.ds hGk.1.1 hGk.1.2 q0 q1).1
        by_cases hc1 : hb (met : Int) q
        · have hne : q ≠ gp (a 15) (a 19) p k := fun h => hnm (h ▸ hc1)
          refine ⟨(f', y'), ⟨⟨t1, t2, t3⟩, t8, fun h => t4 (by omega), fun h => t5 (by omega)⟩, ?_⟩
          dsimp only
          rw [f_X2_tryRing_L57]
          unfold f_X2_tryRing_J113
          rw [hb2, if_pos hc1]
          simp (disch := first | omega | assumption) only [Option.bind_some, bn2_some, ii_lit, ii_neg, ii_add, ii_sub, ii_mul, ii_le, ii_lt, ii_eq, ii_ite, ii_or, ii_and, ii_bit, ii_rem, ii_div, b0_, b1_, b2_, b3_, true_and, and_true, u1_eq, u1_ne, u2_eq, u2_nk, u2_ni, uP_eq, uP_ne, gk1, gk2, gk3, gk4, gk10, gk11, gk12, gk13, gk14, gk15, gk17, gkr0, gkr7, gkr8, gkr9, gkr16, gkr18, gkr19, gkr5, gkr6, ok0, ok1, ok2, ok3, gl2_0, gl2_1, gl2_2, gl3_0, gl3_1, gl3_2, gm0, gm2, gm3, gm4, gm5, gm6, gm7, gm8, gm9, gm10, gm11, gm13, gm14, gm22, gm23, gm26, gm27, gm28, gm29, gm31, gm32, gm33, gm36, gm37, gm39, gm40, gm41, gm1, gm12, gm15, gm16, gm17, gm18, gm19, gm20, gm21, gm24, gm25, gm30, gm34, gm35, gm38, rk0, sk0, rk9, sk9, rk16, sk16, rk18, sk18, rk19, sk19, rm1, sm1, rm12, sm12, rm15, sm15, rm16, sm16, rm17, sm17, rm18, sm18, rm19, sm19, rm20, sm20, rm21, sm21, rm24, sm24, rm25, sm25, rm30, sm30, rm34, sm34, rm35, sm35, rm38, sm38, pk1, pk2, pk3, pk4, pk10, pk11, pk12, pk13, pk14, pk15, pk17, pkr5, pkr6, pm0, pm2, pm3, pm4, pm5, pm6, pm7, pm8, pm9, pm10, pm11, pm13, pz13_0, pz13_1, pm14, pz14_0, pz14_1, pm22, pm23, pm26, pm27, pm28, pm29, pm31, pm32, pm33, pm36, pm37, pm39, pm40, pm41, pl2_0, pl2_1, pl2_2, pl3_0, pl3_1, pl3_2, z15]
          rw [if_neg (by omega), if_neg (by omega)]
        by_cases hc2 : a 19 (10 + 5 * gp (a 15) (a 19) p (k - 1) + q) = 0
        · have hne : q ≠ gp (a 15) (a 19) p k := fun h => n2.2 (h ▸ hc2)
          refine ⟨(f', y'), ⟨⟨t1, t2, t3⟩, t8, fun h => t4 (by omega), fun h => t5 (by omega)⟩, ?_⟩
          dsimp only
          rw [f_X2_tryRing_L57]
          unfold f_X2_tryRing_J113
          rw [hb2, if_neg hc1]
          rw [hc2] at hde
          simp (disch := first | omega | assumption) only [Option.bind_some, bn2_some, ii_lit, ii_neg, ii_add, ii_sub, ii_mul, ii_le, ii_lt, ii_eq, ii_ite, ii_or, ii_and, ii_bit, ii_rem, ii_div, b0_, b1_, b2_, b3_, true_and, and_true, u1_eq, u1_ne, u2_eq, u2_nk, u2_ni, uP_eq, uP_ne, gk1, gk2, gk3, gk4, gk10, gk11, gk12, gk13, gk14, gk15, gk17, gkr0, gkr7, gkr8, gkr9, gkr16, gkr18, gkr19, gkr5, gkr6, ok0, ok1, ok2, ok3, gl2_0, gl2_1, gl2_2, gl3_0, gl3_1, gl3_2, gm0, gm2, gm3, gm4, gm5, gm6, gm7, gm8, gm9, gm10, gm11, gm13, gm14, gm22, gm23, gm26, gm27, gm28, gm29, gm31, gm32, gm33, gm36, gm37, gm39, gm40, gm41, gm1, gm12, gm15, gm16, gm17, gm18, gm19, gm20, gm21, gm24, gm25, gm30, gm34, gm35, gm38, rk0, sk0, rk9, sk9, rk16, sk16, rk18, sk18, rk19, sk19, rm1, sm1, rm12, sm12, rm15, sm15, rm16, sm16, rm17, sm17, rm18, sm18, rm19, sm19, rm20, sm20, rm21, sm21, rm24, sm24, rm25, sm25, rm30, sm30, rm34, sm34, rm35, sm35, rm38, sm38, pk1, pk2, pk3, pk4, pk10, pk11, pk12, pk13, pk14, pk15, pk17, pkr5, pkr6, pm0, pm2, pm3, pm4, pm5, pm6, pm7, pm8, pm9, pm10, pm11, pm13, pz13_0, pz13_1, pm14, pz14_0, pz14_1, pm22, pm23, pm26, pm27, pm28, pm29, pm31, pm32, pm33, pm36, pm37, pm39, pm40, pm41, pl2_0, pl2_1, pl2_2, pl3_0, pl3_1, pl3_2, z15, zl, hde]
          rw [if_neg (by omega), if_pos trivial, if_pos trivial]
        have hE : Ed (a 15) (a 19) (gp (a 15) (a 19) p (k - 1)) q := ⟨⟨q0, q1⟩, hc2⟩
        obtain ⟨b1, b2, b3, b4⟩ := y_add hm32 q0 (show q < 5 by omega) hc1
        have b5 := (y_bcn hn h4).2 q q0 (by omega)
        have hk6 := (y_bcn hn b5).1
        have hmv : ∀ f2 y2, f_X2_tryRing D (some (x + 8)) (ii ((k + 1 : Nat) : Int)) (ii ((met ||| 2 ^ q.toNat : Nat) : Int)) (hp x F P A f' l (u2 y' 34 k q) b) = some (hp x F P A f2 l y2 b) → f_X2_tryRing_L57 (f_X2_tryRing D) (some (x + 8)) (ii k) (ii met) (N + 1) (ii q) (hp x F P A f' l y' b) = f_X2_tryRing_L57 (f_X2_tryRing D) (some (x + 8)) (ii k) (ii met) N (ii (q + 1)) (hp x F P A f2 l y2 b) := by
          intro f2 y2 g1
          have g1' : f_X2_tryRing D (some (x + 8)) (ii ((k : Int) + 1)) (ii ((met ||| 2 ^ q.toNat : Nat) : Int)) (hp x F P A f' l (u2 y' 34 k q) b) = some (hp x F P A f2 l y2 b) := g1
          rw [f_X2_tryRing_L57]
          unfold f_X2_tryRing_J113
          rw [hb2, if_neg hc1, b1]
          simp (disch := first | omega | assumption) only [Option.bind_some, bn2_some, ii_lit, ii_neg, ii_add, ii_sub, ii_mul, ii_le, ii_lt, ii_eq, ii_ite, ii_or, ii_and, ii_bit, ii_rem, ii_div, b0_, b1_, b2_, b3_, true_and, and_true, u1_eq, u1_ne, u2_eq, u2_nk, u2_ni, uP_eq, uP_ne, gk1, gk2, gk3, gk4, gk10, gk11, gk12, gk13, gk14, gk15, gk17, gkr0, gkr7, gkr8, gkr9, gkr16, gkr18, gkr19, gkr5, gkr6, ok0, ok1, ok2, ok3, gl2_0, gl2_1, gl2_2, gl3_0, gl3_1, gl3_2, gm0, gm2, gm3, gm4, gm5, gm6, gm7, gm8, gm9, gm10, gm11, gm13, gm14, gm22, gm23, gm26, gm27, gm28, gm29, gm31, gm32, gm33, gm36, gm37, gm39, gm40, gm41, gm1, gm12, gm15, gm16, gm17, gm18, gm19, gm20, gm21, gm24, gm25, gm30, gm34, gm35, gm38, rk0, sk0, rk9, sk9, rk16, sk16, rk18, sk18, rk19, sk19, rm1, sm1, rm12, sm12, rm15, sm15, rm16, sm16, rm17, sm17, rm18, sm18, rm19, sm19, rm20, sm20, rm21, sm21, rm24, sm24, rm25, sm25, rm30, sm30, rm34, sm34, rm35, sm35, rm38, sm38, pk1, pk2, pk3, pk4, pk10, pk11, pk12, pk13, pk14, pk15, pk17, pkr5, pkr6, pm0, pm2, pm3, pm4, pm5, pm6, pm7, pm8, pm9, pm10, pm11, pm13, pz13_0, pz13_1, pm14, pz14_0, pz14_1, pm22, pm23, pm26, pm27, pm28, pm29, pm31, pm32, pm33, pm36, pm37, pm39, pm40, pm41, pl2_0, pl2_1, pl2_2, pl3_0, pl3_1, pl3_2, z15, zl, hde, g1']
          rw [if_neg (by omega), if_pos trivial, if_neg hc2]
        have hy2 : ∀ j, j ≠ 34 → j ≠ 35 → u2 y' 34 k q j = a j := fun j j1 j2 => (u2_nk _ _ _ j1).trans (t2 j j1 j2)
        have hy3 : ∀ t : Int, 0 ≤ t → t < k → u2 y' 34 k q 34 t = y 34 t := fun t tt1 tt2 => (u2_ni _ _ _ (by omega)).trans (t3 t tt1 tt2)
        have hy0 : u2 y' 34 k q 34 0 = p := (hy3 0 (by omega) (by omega)).trans e0
        have e35 : u2 y' 34 k q 35 = y' 35 := u2_nk _ _ _ (by omega)
        have hlast : u2 y' 34 k q 34 (((k + 1 : Nat) : Int) - 1) = q := by rw [show ((k + 1 : Nat) : Int) - 1 = k by omega, u2_eq]
        by_cases hqg : q = gp (a 15) (a 19) p k
        · obtain ⟨f2, y2, g1, ⟨g2, g3, g4⟩, g5, g6⟩ := ih (k + 1) D (met ||| 2 ^ q.toNat) f' (u2 y' 34 k q) (by omega) (by omega) (by omega) (by omega) b5 (fun r r0 r1 => by
            rw [b4 r r0 r1, hmb r r0 r1]
            constructor
            · rintro (⟨i, i1, i2⟩ | h)
              · exact ⟨i, by omega, i2⟩
              · exact ⟨k, by omega, h.trans hqg⟩
            · rintro ⟨i, i1, i2⟩
              by_cases hik : i = k
              · subst hik
                exact Or.inr (i2.trans hqg.symm)
              · exact Or.inl ⟨i, by omega, i2⟩) hy2 (fun i hi => by
            by_cases hik : i = k
            · subst hik
              rw [u2_eq]
              exact hqg
            · exact (hy3 i (by omega) (by omega)).trans (h6 i (by omega))) (t4 (by omega)) t8
          refine ⟨(f2, y2), ⟨⟨fun j hj => (g2 j hj).trans (t1 j hj), g3, fun t tt1 tt2 => (g4 t tt1 (by omega)).trans (hy3 t tt1 tt2)⟩, by dsimp only; omega, fun h => by omega, fun _ => ⟨g5, g6⟩⟩, hmv f2 y2 g1⟩
        · by_cases hlt : q < gp (a 15) (a 19) p k
          · have h36 := t4 (by omega)
            obtain ⟨f2, y2, g1, ⟨g2, g3, g4⟩, g5⟩ := m_tryX x F P A f l a b hR p0 p1 D (k + 1) (met ||| 2 ^ q.toNat) f' (u2 y' 34 k q) ((L : Int) + 1) (by omega) (by omega) (by omega) b5 hy2 hy0 (by rw [hlast]; exact ⟨q0, q1⟩) (by omega) (fun j j1 j2 => by
              rw [hlast] at j2
              have m1 := hmin q j hE j1 j2
              have m2 : ¬ j ≤ L - (k - 1) - 1 := fun hj => n3 q q0 hlt hE j j1 hj j2
              omega)
            refine ⟨(f2, y2), ⟨⟨fun j hj => (g2 j hj).trans (t1 j hj), g3, fun t tt1 tt2 => (g4 t tt1 (by omega)).trans (hy3 t tt1 tt2)⟩, ?_, fun h => ?_, fun h => by omega⟩, hmv f2 y2 g1⟩
            · dsimp only
              rcases g5 with ⟨r1, r2⟩ | ⟨r1, r2, r3, r4⟩ <;> omega
            · dsimp only
              rcases g5 with ⟨r1, r2⟩ | ⟨r1, r2, r3, r4⟩ <;> omega
          · obtain ⟨s1, s2⟩ := t5 (by omega)
            obtain ⟨f2, y2, g1, ⟨g2, g3, g4⟩, g5⟩ := m_tryX x F P A f l a b hR p0 p1 D (k + 1) (met ||| 2 ^ q.toNat) f' (u2 y' 34 k q) (L : Int) (by omega) (by omega) (by omega) b5 hy2 hy0 (by rw [hlast]; exact ⟨q0, q1⟩) (by omega) (fun j j1 j2 => by
              rw [hlast] at j2
              have m1 := hmin q j hE j1 j2
              omega)
            have hsame : f2 36 = L ∧ y2 35 = y' 35 := by
              rcases g5 with ⟨r1, r2⟩ | ⟨r1, r2, r3, r4⟩
              · exact ⟨r1.trans s1, r2.trans e35⟩
              · omega
            refine ⟨(f2, y2), ⟨⟨fun j hj => (g2 j hj).trans (t1 j hj), g3, fun t tt1 tt2 => (g4 t tt1 (by omega)).trans (hy3 t tt1 tt2)⟩, by dsimp only; omega, fun h => by omega, fun _ => ⟨hsame.1, fun i hi => by dsimp only; rw [hsame.2]; exact s2 i hi⟩⟩, hmv f2 y2 g1⟩
    have hc : ii (k : Int) < ii (f 36) := by
      rw [ii_lt (by omega) (by omega)]
      omega
    rw [f_X2_tryRing, gm36, Option.bind_some, if_pos hc]
    by_cases hk1 : k = 1
    · have hc2 : ii (k : Int) ≤ 1 := by
        rw [show (1 : Int32) = ii 1 from rfl, ii_le (by omega) (by omega)]
        omega
      rw [if_pos hc2]
      exact hLoop
    have hc2 : ¬ ii (k : Int) ≤ 1 := by
      rw [show (1 : Int32) = ii 1 from rfl, ii_le (by omega) (by omega)]
      omega
    have hg5 := hGk.1.2
    have hde := m_debtOf x F P A f l y b (p := gp (a 15) (a 19) p (k - 1)) (q := p) hGk.1.1 (by omega) p0 (by omega)
    rw [e19, hnE] at hde
    rw [if_neg hc2]
    simp (disch := first | omega | assumption) only [Option.bind_some, bn2_some, ii_lit, ii_neg, ii_add, ii_sub, ii_mul, ii_le, ii_lt, ii_eq, ii_ite, ii_or, ii_and, ii_bit, ii_rem, ii_div, b0_, b1_, b2_, b3_, true_and, and_true, u1_eq, u1_ne, u2_eq, u2_nk, u2_ni, uP_eq, uP_ne, gk1, gk2, gk3, gk4, gk10, gk11, gk12, gk13, gk14, gk15, gk17, gkr0, gkr7, gkr8, gkr9, gkr16, gkr18, gkr19, gkr5, gkr6, ok0, ok1, ok2, ok3, gl2_0, gl2_1, gl2_2, gl3_0, gl3_1, gl3_2, gm0, gm2, gm3, gm4, gm5, gm6, gm7, gm8, gm9, gm10, gm11, gm13, gm14, gm22, gm23, gm26, gm27, gm28, gm29, gm31, gm32, gm33, gm36, gm37, gm39, gm40, gm41, gm1, gm12, gm15, gm16, gm17, gm18, gm19, gm20, gm21, gm24, gm25, gm30, gm34, gm35, gm38, rk0, sk0, rk9, sk9, rk16, sk16, rk18, sk18, rk19, sk19, rm1, sm1, rm12, sm12, rm15, sm15, rm16, sm16, rm17, sm17, rm18, sm18, rm19, sm19, rm20, sm20, rm21, sm21, rm24, sm24, rm25, sm25, rm30, sm30, rm34, sm34, rm35, sm35, rm38, sm38, pk1, pk2, pk3, pk4, pk10, pk11, pk12, pk13, pk14, pk15, pk17, pkr5, pkr6, pm0, pm2, pm3, pm4, pm5, pm6, pm7, pm8, pm9, pm10, pm11, pm13, pz13_0, pz13_1, pm14, pz14_0, pz14_1, pm22, pm23, pm26, pm27, pm28, pm29, pm31, pm32, pm33, pm36, pm37, pm39, pm40, pm41, pl2_0, pl2_1, pl2_2, pl3_0, pl3_1, pl3_2, el, e0, hde]
    rw [if_pos (by omega)]
    exact hLoop
theorem m_seekRing (x : Nat) (F : Nat → Int) (P : Nat → Option Nat) (A : Nat → Int → Int) (f l : Nat → Int) (a : Nat → Int → Int) (b : fk_M) (hR : Rg (a 15) (a 17) (a 19)) {p : Int} (p0 : 0 ≤ p) (p1 : p < a 15 2) : ∃ f' y', f_X2_seekRing (some (x + 8)) (ii p) (hp x F P A f l a b) = some (ii (if dT (a 15) (a 19) p p (a 15 2) = -2 then 0 else 1), hp x F P A f' l y' b) ∧ (∀ j, j ≠ 36 → f' j = f j) ∧ (∀ j, j ≠ 34 → j ≠ 35 → y' j = a j) ∧ (dT (a 15) (a 19) p p (a 15 2) ≠ -2 → f' 36 = dT (a 15) (a 19) p p (a 15 2) ∧ ∀ i : Int, 0 ≤ i → i ≤ dT (a 15) (a 19) p p (a 15 2) - 1 → y' 35 i = gp (a 15) (a 19) p i.toNat) := by
  have hw := hR.wd
  have hn : (a 15 2).toNat ≤ 5 := by omega
  obtain ⟨o1, o2, o3, o4⟩ := y_one p0 (show p < 5 by omega)
  have hlt : 2 ^ p.toNat < 2 ^ (a 15 2).toNat := Nat.pow_lt_pow_right (by omega) (by omega)
  have hy : ∀ j, j ≠ 34 → j ≠ 35 → u2 a 34 0 p j = a j := fun j j1 _ => u2_nk _ _ _ j1
  have h36 : u1 f 36 100000000 36 = 100000000 := u1_eq ..
  unfold f_X2_seekRing
  rcases dT_ok hR p0 p1 p0 p1 (show 0 ≤ a 15 2 by omega) with ⟨h1, h2⟩ | ⟨L, h1, h2, h3, h4, h5⟩
  · obtain ⟨f', y', g1, ⟨g2, g3, g4⟩, g5⟩ := m_tryX x F P A f l a b hR p0 p1 8 1 (2 ^ p.toNat) (u1 f 36 100000000) (u2 a 34 0 p) (a 15 2 + 1) (by omega) (by omega) o3 hlt hy (u2_eq ..) (by rw [show ((1 : Nat) : Int) - 1 = 0 from rfl, u2_eq]; exact ⟨p0, p1⟩) (by omega) (fun j j1 j2 => by
      rw [show ((1 : Nat) : Int) - 1 = 0 from rfl, u2_eq] at j2
      by_cases hj : (j : Int) ≤ a 15 2
      · exact absurd j2 (h2 j j1 hj)
      · omega)
    have g1' : f_X2_tryRing 8 (some (x + 8)) (ii 1) (ii ((2 ^ p.toNat : Nat) : Int)) (hp x F P A (u1 f 36 100000000) l (u2 a 34 0 p) b) = some (hp x F P A f' l y' b) := g1
    have hsame : f' 36 = 100000000 := by
      rcases g5 with ⟨r1, r2⟩ | ⟨r1, r2, r3, r4⟩ <;> omega
    refine ⟨f', y', ?_, fun j hj => (g2 j hj).trans (u1_ne _ _ hj), g3, fun h => absurd h1 h⟩
    rw [o1, if_pos h1]
    simp (disch := first | omega | assumption) only [Option.bind_some, bn2_some, ii_lit, ii_neg, ii_add, ii_sub, ii_mul, ii_le, ii_lt, ii_eq, ii_ite, ii_or, ii_and, ii_bit, ii_rem, ii_div, b0_, b1_, b2_, b3_, true_and, and_true, u1_eq, u1_ne, u2_eq, u2_nk, u2_ni, uP_eq, uP_ne, gk1, gk2, gk3, gk4, gk10, gk11, gk12, gk13, gk14, gk15, gk17, gkr0, gkr7, gkr8, gkr9, gkr16, gkr18, gkr19, gkr5, gkr6, ok0, ok1, ok2, ok3, gl2_0, gl2_1, gl2_2, gl3_0, gl3_1, gl3_2, gm0, gm2, gm3, gm4, gm5, gm6, gm7, gm8, gm9, gm10, gm11, gm13, gm14, gm22, gm23, gm26, gm27, gm28, gm29, gm31, gm32, gm33, gm36, gm37, gm39, gm40, gm41, gm1, gm12, gm15, gm16, gm17, gm18, gm19, gm20, gm21, gm24, gm25, gm30, gm34, gm35, gm38, rk0, sk0, rk9, sk9, rk16, sk16, rk18, sk18, rk19, sk19, rm1, sm1, rm12, sm12, rm15, sm15, rm16, sm16, rm17, sm17, rm18, sm18, rm19, sm19, rm20, sm20, rm21, sm21, rm24, sm24, rm25, sm25, rm30, sm30, rm34, sm34, rm35, sm35, rm38, sm38, pk1, pk2, pk3, pk4, pk10, pk11, pk12, pk13, pk14, pk15, pk17, pkr5, pkr6, pm0, pm2, pm3, pm4, pm5, pm6, pm7, pm8, pm9, pm10, pm11, pm13, pz13_0, pz13_1, pm14, pz14_0, pz14_1, pm22, pm23, pm26, pm27, pm28, pm29, pm31, pm32, pm33, pm36, pm37, pm39, pm40, pm41, pl2_0, pl2_1, pl2_2, pl3_0, pl3_1, pl3_2, g1', hsame]
    rw [if_pos (by omega)]
  · have hG := gp_all hR p0 p1 h1
    obtain ⟨f', y', g1, ⟨g2, g3, g4⟩, g5, g6⟩ := m_tryG x F P A f l a b hR p0 p1 h1 (L - 1) 1 8 (2 ^ p.toNat) (u1 f 36 100000000) (u2 a 34 0 p) (by omega) (by omega) (by omega) o3 hlt (fun q q0 q1 => by
      rw [o4 q q0 q1]
      constructor
      · intro h
        exact ⟨0, by omega, h⟩
      · rintro ⟨i, i1, i2⟩
        obtain rfl : i = 0 := by omega
        exact i2) hy (fun i hi => by
      obtain rfl : i = 0 := by omega
      exact u2_eq ..) (by omega) (by omega)
    have g1' : f_X2_tryRing 8 (some (x + 8)) (ii 1) (ii ((2 ^ p.toNat : Nat) : Int)) (hp x F P A (u1 f 36 100000000) l (u2 a 34 0 p) b) = some (hp x F P A f' l y' b) := g1
    refine ⟨f', y', ?_, fun j hj => (g2 j hj).trans (u1_ne _ _ hj), g3, fun _ => ⟨g5.trans h1.symm, fun i i0 i1 => ?_⟩⟩
    · rw [o1, if_neg (by omega)]
      simp (disch := first | omega | assumption) only [Option.bind_some, bn2_some, ii_lit, ii_neg, ii_add, ii_sub, ii_mul, ii_le, ii_lt, ii_eq, ii_ite, ii_or, ii_and, ii_bit, ii_rem, ii_div, b0_, b1_, b2_, b3_, true_and, and_true, u1_eq, u1_ne, u2_eq, u2_nk, u2_ni, uP_eq, uP_ne, gk1, gk2, gk3, gk4, gk10, gk11, gk12, gk13, gk14, gk15, gk17, gkr0, gkr7, gkr8, gkr9, gkr16, gkr18, gkr19, gkr5, gkr6, ok0, ok1, ok2, ok3, gl2_0, gl2_1, gl2_2, gl3_0, gl3_1, gl3_2, gm0, gm2, gm3, gm4, gm5, gm6, gm7, gm8, gm9, gm10, gm11, gm13, gm14, gm22, gm23, gm26, gm27, gm28, gm29, gm31, gm32, gm33, gm36, gm37, gm39, gm40, gm41, gm1, gm12, gm15, gm16, gm17, gm18, gm19, gm20, gm21, gm24, gm25, gm30, gm34, gm35, gm38, rk0, sk0, rk9, sk9, rk16, sk16, rk18, sk18, rk19, sk19, rm1, sm1, rm12, sm12, rm15, sm15, rm16, sm16, rm17, sm17, rm18, sm18, rm19, sm19, rm20, sm20, rm21, sm21, rm24, sm24, rm25, sm25, rm30, sm30, rm34, sm34, rm35, sm35, rm38, sm38, pk1, pk2, pk3, pk4, pk10, pk11, pk12, pk13, pk14, pk15, pk17, pkr5, pkr6, pm0, pm2, pm3, pm4, pm5, pm6, pm7, pm8, pm9, pm10, pm11, pm13, pz13_0, pz13_1, pm14, pz14_0, pz14_1, pm22, pm23, pm26, pm27, pm28, pm29, pm31, pm32, pm33, pm36, pm37, pm39, pm40, pm41, pl2_0, pl2_1, pl2_2, pl3_0, pl3_1, pl3_2, g1', g5]
      rw [if_neg (by omega)]
    · have := g6 i.toNat (by omega)
      rwa [Int.toNat_of_nonneg i0] at this
theorem mk.n36 {f f' : Nat → Int} (h : ∀ k, k ≠ 36 → f' k = f k) : mk f f' := ⟨h 2 (by omega), h 9 (by omega), h 10 (by omega), h 14 (by omega), h 22 (by omega), h 23 (by omega)⟩
theorem ma.n34 {a a' : Nat → Int → Int} (h : ∀ j, j ≠ 34 → j ≠ 35 → a' j = a j) : ma a a' := ⟨h 1 (by omega) (by omega), h 15 (by omega) (by omega), h 17 (by omega) (by omega), h 19 (by omega) (by omega), h 20 (by omega) (by omega), h 21 (by omega) (by omega)⟩
theorem m_ring (x : Nat) (F : Nat → Int) (P : Nat → Option Nat) (A : Nat → Int → Int) (f l : Nat → Int) (a : Nat → Int → Int) (b : fk_M) {p : Int} (hp0 : rg p) (hM : Hm f a) : MO x F P A f l a b (s_ring (f 14) (a 15) (a 19) p) (if (f 14 = 1 ∧ 0 ≤ p ∧ p < a 15 2) then 0 else 1) (f_X2_ring (some (x + 8)) (ii p) (hp x F P A f l a b)) := by
  unfold f_X2_ring s_ring
  have hM' : Hm (fo f 0) a := hM
  simp (disch := first | omega | assumption) only [Option.bind_some, bn2_some, ii_lit, ii_neg, ii_add, ii_sub, ii_mul, ii_le, ii_lt, ii_eq, ii_ite, ii_or, ii_and, ii_bit, ii_rem, ii_div, b0_, b1_, b2_, b3_, true_and, and_true, u1_eq, u1_ne, u2_eq, u2_nk, u2_ni, uP_eq, uP_ne, gk1, gk2, gk3, gk4, gk10, gk11, gk12, gk13, gk14, gk15, gk17, gkr0, gkr7, gkr8, gkr9, gkr16, gkr18, gkr19, gkr5, gkr6, ok0, ok1, ok2, ok3, gl2_0, gl2_1, gl2_2, gl3_0, gl3_1, gl3_2, gm0, gm2, gm3, gm4, gm5, gm6, gm7, gm8, gm9, gm10, gm11, gm13, gm14, gm22, gm23, gm26, gm27, gm28, gm29, gm31, gm32, gm33, gm36, gm37, gm39, gm40, gm41, gm1, gm12, gm15, gm16, gm17, gm18, gm19, gm20, gm21, gm24, gm25, gm30, gm34, gm35, gm38, rk0, sk0, rk9, sk9, rk16, sk16, rk18, sk18, rk19, sk19, rm1, sm1, rm12, sm12, rm15, sm15, rm16, sm16, rm17, sm17, rm18, sm18, rm19, sm19, rm20, sm20, rm21, sm21, rm24, sm24, rm25, sm25, rm30, sm30, rm34, sm34, rm35, sm35, rm38, sm38, pk1, pk2, pk3, pk4, pk10, pk11, pk12, pk13, pk14, pk15, pk17, pkr5, pkr6, pm0, pm2, pm3, pm4, pm5, pm6, pm7, pm8, pm9, pm10, pm11, pm13, pz13_0, pz13_1, pm14, pz14_0, pz14_1, pm22, pm23, pm26, pm27, pm28, pm29, pm31, pm32, pm33, pm36, pm37, pm39, pm40, pm41, pl2_0, pl2_1, pl2_2, pl3_0, pl3_1, pl3_2, m_good, m_isPair, m_no, u1_u1]
  by_cases h0 : (f 14 = 1 ∧ 0 ≤ p ∧ p < a 15 2)
  · rw [if_neg (Decidable.not_not.mpr h0), if_pos h0, if_pos h0]
    obtain ⟨h1, p0, p1⟩ := h0
    obtain hn | ⟨-, hR⟩ := hM
    · omega
    obtain ⟨f', a', g1, g2, g3, g4⟩ := m_seekRing x F P A (fo f 0) l a b hR p0 p1
    refine MO.mk f' l a' ?_ ((g2 0 (by omega)).trans ((u1_ne _ _ (by omega)).trans (u1_eq ..))) ((g2 11 (by omega)).trans (u1_eq ..)) ((mk.o f 0).tr (mk.n36 g2)) (ma.n34 g3)
    rw [g1]
    by_cases hd : dT (a 15) (a 19) p p (a 15 2) = -2
    · rw [if_pos hd, hd]
      rfl
    · have g5 := (g4 hd).1
      rw [if_neg hd]
      simp (disch := first | omega | assumption) only [Option.bind_some, bn2_some, ii_lit, ii_neg, ii_add, ii_sub, ii_mul, ii_le, ii_lt, ii_eq, ii_ite, ii_or, ii_and, ii_bit, ii_rem, ii_div, b0_, b1_, b2_, b3_, true_and, and_true, u1_eq, u1_ne, u2_eq, u2_nk, u2_ni, uP_eq, uP_ne, gk1, gk2, gk3, gk4, gk10, gk11, gk12, gk13, gk14, gk15, gk17, gkr0, gkr7, gkr8, gkr9, gkr16, gkr18, gkr19, gkr5, gkr6, ok0, ok1, ok2, ok3, gl2_0, gl2_1, gl2_2, gl3_0, gl3_1, gl3_2, gm0, gm2, gm3, gm4, gm5, gm6, gm7, gm8, gm9, gm10, gm11, gm13, gm14, gm22, gm23, gm26, gm27, gm28, gm29, gm31, gm32, gm33, gm36, gm37, gm39, gm40, gm41, gm1, gm12, gm15, gm16, gm17, gm18, gm19, gm20, gm21, gm24, gm25, gm30, gm34, gm35, gm38, rk0, sk0, rk9, sk9, rk16, sk16, rk18, sk18, rk19, sk19, rm1, sm1, rm12, sm12, rm15, sm15, rm16, sm16, rm17, sm17, rm18, sm18, rm19, sm19, rm20, sm20, rm21, sm21, rm24, sm24, rm25, sm25, rm30, sm30, rm34, sm34, rm35, sm35, rm38, sm38, pk1, pk2, pk3, pk4, pk10, pk11, pk12, pk13, pk14, pk15, pk17, pkr5, pkr6, pm0, pm2, pm3, pm4, pm5, pm6, pm7, pm8, pm9, pm10, pm11, pm13, pz13_0, pz13_1, pm14, pz14_0, pz14_1, pm22, pm23, pm26, pm27, pm28, pm29, pm31, pm32, pm33, pm36, pm37, pm39, pm40, pm41, pl2_0, pl2_1, pl2_2, pl3_0, pl3_1, pl3_2, g5]
      rw [if_neg (by omega)]
  · rw [if_pos h0, if_neg h0, if_neg h0]
    exact MO.ref ..
theorem m_ringAt (x : Nat) (F : Nat → Int) (P : Nat → Option Nat) (A : Nat → Int → Int) (f l : Nat → Int) (a : Nat → Int → Int) (b : fk_M) {p i : Int} (hp0 : rg p) (hi : rg i) (hM : Hm f a) : MO x F P A f l a b (s_ringAt (f 14) (a 15) (a 19) p i) (if (f 14 = 1 ∧ 0 ≤ p ∧ p < a 15 2) ∧ 0 ≤ i ∧ i ≤ dT (a 15) (a 19) p p (a 15 2) - 1 then 0 else 1) (f_X2_ringAt (some (x + 8)) (ii p) (ii i) (hp x F P A f l a b)) := by
  unfold f_X2_ringAt s_ringAt f_X2_ringAt_J34
  have hM' : Hm (fo f 0) a := hM
  simp (disch := first | omega | assumption) only [Option.bind_some, bn2_some, ii_lit, ii_neg, ii_add, ii_sub, ii_mul, ii_le, ii_lt, ii_eq, ii_ite, ii_or, ii_and, ii_bit, ii_rem, ii_div, b0_, b1_, b2_, b3_, true_and, and_true, u1_eq, u1_ne, u2_eq, u2_nk, u2_ni, uP_eq, uP_ne, gk1, gk2, gk3, gk4, gk10, gk11, gk12, gk13, gk14, gk15, gk17, gkr0, gkr7, gkr8, gkr9, gkr16, gkr18, gkr19, gkr5, gkr6, ok0, ok1, ok2, ok3, gl2_0, gl2_1, gl2_2, gl3_0, gl3_1, gl3_2, gm0, gm2, gm3, gm4, gm5, gm6, gm7, gm8, gm9, gm10, gm11, gm13, gm14, gm22, gm23, gm26, gm27, gm28, gm29, gm31, gm32, gm33, gm36, gm37, gm39, gm40, gm41, gm1, gm12, gm15, gm16, gm17, gm18, gm19, gm20, gm21, gm24, gm25, gm30, gm34, gm35, gm38, rk0, sk0, rk9, sk9, rk16, sk16, rk18, sk18, rk19, sk19, rm1, sm1, rm12, sm12, rm15, sm15, rm16, sm16, rm17, sm17, rm18, sm18, rm19, sm19, rm20, sm20, rm21, sm21, rm24, sm24, rm25, sm25, rm30, sm30, rm34, sm34, rm35, sm35, rm38, sm38, pk1, pk2, pk3, pk4, pk10, pk11, pk12, pk13, pk14, pk15, pk17, pkr5, pkr6, pm0, pm2, pm3, pm4, pm5, pm6, pm7, pm8, pm9, pm10, pm11, pm13, pz13_0, pz13_1, pm14, pz14_0, pz14_1, pm22, pm23, pm26, pm27, pm28, pm29, pm31, pm32, pm33, pm36, pm37, pm39, pm40, pm41, pl2_0, pl2_1, pl2_2, pl3_0, pl3_1, pl3_2, m_good, m_isPair, m_no, u1_u1]
  by_cases h0 : (f 14 = 1 ∧ 0 ≤ p ∧ p < a 15 2)
  · rw [if_neg (Decidable.not_not.mpr h0)]
    have h0' := h0
    obtain ⟨h1, p0, p1⟩ := h0
    obtain hn | ⟨-, hR⟩ := hM
    · omega
    have hw := hR.wd
    obtain ⟨f', a', g1, g2, g3, g4⟩ := m_seekRing x F P A (fo f 0) l a b hR p0 p1
    have hdr := dT_rg hR p0 p1
    have hdb : -2 ≤ dT (a 15) (a 19) p p (a 15 2) ∧ dT (a 15) (a 19) p p (a 15 2) ≤ 5 := by
      rcases hdr with h | ⟨L, h1, h2, h3⟩
      · omega
      · omega
    clear hdr
    have f0 : f' 0 = 0 := (g2 0 (by omega)).trans ((u1_ne _ _ (by omega)).trans (u1_eq ..))
    have f11 : f' 11 = 0 := (g2 11 (by omega)).trans (u1_eq ..)
    have hmk := (mk.o f 0).tr (mk.n36 g2)
    rw [g1]
    by_cases hc : 0 ≤ i ∧ i ≤ dT (a 15) (a 19) p p (a 15 2) - 1
    · have hd : ¬ dT (a 15) (a 19) p p (a 15 2) = -2 := by omega
      obtain ⟨g5, g6⟩ := g4 hd
      have e2 := m_in (hp x F P A f' l a' b) (v := i) (lo := 0) (hi := dT (a 15) (a 19) p p (a 15 2) - 1) hi (by omega) (by omega)
      have e6 := g6 i hc.1 hc.2
      rw [if_neg hd, if_pos ⟨h0', hc⟩, if_pos ⟨h0', hc⟩]
      refine MO.mk f' l a' ?_ f0 f11 hmk (ma.n34 g3)
      simp (disch := first | omega | assumption) only [Option.bind_some, bn2_some, ii_lit, ii_neg, ii_add, ii_sub, ii_mul, ii_le, ii_lt, ii_eq, ii_ite, ii_or, ii_and, ii_bit, ii_rem, ii_div, b0_, b1_, b2_, b3_, true_and, and_true, u1_eq, u1_ne, u2_eq, u2_nk, u2_ni, uP_eq, uP_ne, gk1, gk2, gk3, gk4, gk10, gk11, gk12, gk13, gk14, gk15, gk17, gkr0, gkr7, gkr8, gkr9, gkr16, gkr18, gkr19, gkr5, gkr6, ok0, ok1, ok2, ok3, gl2_0, gl2_1, gl2_2, gl3_0, gl3_1, gl3_2, gm0, gm2, gm3, gm4, gm5, gm6, gm7, gm8, gm9, gm10, gm11, gm13, gm14, gm22, gm23, gm26, gm27, gm28, gm29, gm31, gm32, gm33, gm36, gm37, gm39, gm40, gm41, gm1, gm12, gm15, gm16, gm17, gm18, gm19, gm20, gm21, gm24, gm25, gm30, gm34, gm35, gm38, rk0, sk0, rk9, sk9, rk16, sk16, rk18, sk18, rk19, sk19, rm1, sm1, rm12, sm12, rm15, sm15, rm16, sm16, rm17, sm17, rm18, sm18, rm19, sm19, rm20, sm20, rm21, sm21, rm24, sm24, rm25, sm25, rm30, sm30, rm34, sm34, rm35, sm35, rm38, sm38, pk1, pk2, pk3, pk4, pk10, pk11, pk12, pk13, pk14, pk15, pk17, pkr5, pkr6, pm0, pm2, pm3, pm4, pm5, pm6, pm7, pm8, pm9, pm10, pm11, pm13, pz13_0, pz13_1, pm14, pz14_0, pz14_1, pm22, pm23, pm26, pm27, pm28, pm29, pm31, pm32, pm33, pm36, pm37, pm39, pm40, pm41, pl2_0, pl2_1, pl2_2, pl3_0, pl3_1, pl3_2, g5, e2, e6]
      rw [if_neg (by omega), if_neg (fun h => h hc)]
    · rw [if_neg (show ¬ ((f 14 = 1 ∧ 0 ≤ p ∧ p < a 15 2) ∧ 0 ≤ i ∧ i ≤ dT (a 15) (a 19) p p (a 15 2) - 1) from fun h => hc h.2), if_neg (show ¬ ((f 14 = 1 ∧ 0 ≤ p ∧ p < a 15 2) ∧ 0 ≤ i ∧ i ≤ dT (a 15) (a 19) p p (a 15 2) - 1) from fun h => hc h.2)]
      refine ⟨u1 f' 11 1, l, a', ?_, (u1_ne _ _ (by omega)).trans f0, u1_eq .., hmk.tr (mk.u _ 11 1 (by omega)), ma.n34 g3⟩
      by_cases hd : dT (a 15) (a 19) p p (a 15 2) = -2
      · rw [if_pos hd]
        simp (disch := first | omega | assumption) only [Option.bind_some, bn2_some, ii_lit, ii_neg, ii_add, ii_sub, ii_mul, ii_le, ii_lt, ii_eq, ii_ite, ii_or, ii_and, ii_bit, ii_rem, ii_div, b0_, b1_, b2_, b3_, true_and, and_true, u1_eq, u1_ne, u2_eq, u2_nk, u2_ni, uP_eq, uP_ne, gk1, gk2, gk3, gk4, gk10, gk11, gk12, gk13, gk14, gk15, gk17, gkr0, gkr7, gkr8, gkr9, gkr16, gkr18, gkr19, gkr5, gkr6, ok0, ok1, ok2, ok3, gl2_0, gl2_1, gl2_2, gl3_0, gl3_1, gl3_2, gm0, gm2, gm3, gm4, gm5, gm6, gm7, gm8, gm9, gm10, gm11, gm13, gm14, gm22, gm23, gm26, gm27, gm28, gm29, gm31, gm32, gm33, gm36, gm37, gm39, gm40, gm41, gm1, gm12, gm15, gm16, gm17, gm18, gm19, gm20, gm21, gm24, gm25, gm30, gm34, gm35, gm38, rk0, sk0, rk9, sk9, rk16, sk16, rk18, sk18, rk19, sk19, rm1, sm1, rm12, sm12, rm15, sm15, rm16, sm16, rm17, sm17, rm18, sm18, rm19, sm19, rm20, sm20, rm21, sm21, rm24, sm24, rm25, sm25, rm30, sm30, rm34, sm34, rm35, sm35, rm38, sm38, pk1, pk2, pk3, pk4, pk10, pk11, pk12, pk13, pk14, pk15, pk17, pkr5, pkr6, pm0, pm2, pm3, pm4, pm5, pm6, pm7, pm8, pm9, pm10, pm11, pm13, pz13_0, pz13_1, pm14, pz14_0, pz14_1, pm22, pm23, pm26, pm27, pm28, pm29, pm31, pm32, pm33, pm36, pm37, pm39, pm40, pm41, pl2_0, pl2_1, pl2_2, pl3_0, pl3_1, pl3_2, m_no]
        rw [if_pos trivial]
      · obtain ⟨g5, g6⟩ := g4 hd
        have e2 := m_in (hp x F P A f' l a' b) (v := i) (lo := 0) (hi := dT (a 15) (a 19) p p (a 15 2) - 1) hi (by omega) (by omega)
        rw [if_neg hd]
        simp (disch := first | omega | assumption) only [Option.bind_some, bn2_some, ii_lit, ii_neg, ii_add, ii_sub, ii_mul, ii_le, ii_lt, ii_eq, ii_ite, ii_or, ii_and, ii_bit, ii_rem, ii_div, b0_, b1_, b2_, b3_, true_and, and_true, u1_eq, u1_ne, u2_eq, u2_nk, u2_ni, uP_eq, uP_ne, gk1, gk2, gk3, gk4, gk10, gk11, gk12, gk13, gk14, gk15, gk17, gkr0, gkr7, gkr8, gkr9, gkr16, gkr18, gkr19, gkr5, gkr6, ok0, ok1, ok2, ok3, gl2_0, gl2_1, gl2_2, gl3_0, gl3_1, gl3_2, gm0, gm2, gm3, gm4, gm5, gm6, gm7, gm8, gm9, gm10, gm11, gm13, gm14, gm22, gm23, gm26, gm27, gm28, gm29, gm31, gm32, gm33, gm36, gm37, gm39, gm40, gm41, gm1, gm12, gm15, gm16, gm17, gm18, gm19, gm20, gm21, gm24, gm25, gm30, gm34, gm35, gm38, rk0, sk0, rk9, sk9, rk16, sk16, rk18, sk18, rk19, sk19, rm1, sm1, rm12, sm12, rm15, sm15, rm16, sm16, rm17, sm17, rm18, sm18, rm19, sm19, rm20, sm20, rm21, sm21, rm24, sm24, rm25, sm25, rm30, sm30, rm34, sm34, rm35, sm35, rm38, sm38, pk1, pk2, pk3, pk4, pk10, pk11, pk12, pk13, pk14, pk15, pk17, pkr5, pkr6, pm0, pm2, pm3, pm4, pm5, pm6, pm7, pm8, pm9, pm10, pm11, pm13, pz13_0, pz13_1, pm14, pz14_0, pz14_1, pm22, pm23, pm26, pm27, pm28, pm29, pm31, pm32, pm33, pm36, pm37, pm39, pm40, pm41, pl2_0, pl2_1, pl2_2, pl3_0, pl3_1, pl3_2, g5, e2, m_no]
        rw [if_neg (by omega), if_pos hc]
  · rw [if_pos h0, if_neg (fun h => h0 h.1), if_neg (fun h => h0 h.1)]
    exact MO.ref ..
