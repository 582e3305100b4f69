/-! PLAIN 12: the component's contracts, steps -/
set_option maxRecDepth 100000
theorem k_bestEvery (x : Nat) (F : Nat → Int) (P : Nat → Option Nat) (A : Nat → Int → Int) (f l : Nat → Int) (a : Nat → Int → Int) (b : fk_M) {q lw hk : Int → Nat} {pa sg un l5 l6 s1 s2 s3 : Nat} {ρ τ σ : Int → Int} (hR : Rg ρ τ σ) (hA : Api x P b ρ τ σ q lw hk pa sg un l5 l6 s1 s2 s3) {p n : Int} (hp1 : 0 ≤ p) (hp2 : p < ρ 2) (hn0 : 0 ≤ n) (hn1 : n ≤ 60) : ∃ F' A', f_X1_bestEvery (some x) (ii p) (ii n) (hp x F P A f l a b) = some (ii (be ρ σ p n), hp x F' P A' f l a b) ∧ F' 12 = tl ρ σ p (σ (5 + p)) (be ρ σ p n) n.toNat ∧ ke F F' ∧ A' 0 = A 0 := by
  have hw := hR.wd
  have hq := hR.pr hp1 hp2
  unfold f_X1_bestEvery
  have hL := loop_ex (fun N (u : Int × Int) k (y : Nat → Int → Int) => f_X1_bestEvery_L10 (some x) (ii p) (ii n) N (ii u.1) (ii k) (hp x (u1 F 12 u.2) P y f l a b)) (bst2 (fun e => tl ρ σ p (σ (5 + p)) e n.toNat)) (fun u y => some (ii u.1, hp x (u1 F 12 u.2) P y f l a b)) (fun u k y => (-1 ≤ u.2 ∧ u.2 ≤ 1000) ∧ y 0 = A 0) (lo := 0) (hi := 10) ?_ ?_ 10 fk_fuel (0, -1) 0 A (by omega) (by omega) (by unfold fk_fuel; omega) ⟨by decide, rfl⟩
  · obtain ⟨A', e1, e2⟩ := hL
    have h2 : bst2 (fun e => tl ρ σ p (σ (5 + p)) e n.toNat) (0, -1) 0 = (0, tl ρ σ p (σ (5 + p)) 0 n.toNat) := by
      have := tl_rg (ρ := ρ) (σ := σ) (p := p) (step := σ (5 + p)) (every := 0) (by omega) (by omega) (by omega) n.toNat
      unfold bst2
      rw [if_pos (show (-1 : Int) < tl ρ σ p (σ (5 + p)) 0 n.toNat by omega)]
    have h3 : itr (bst2 (fun e => tl ρ σ p (σ (5 + p)) e n.toNat)) 10 0 (0, -1) = (be ρ σ p n, tl ρ σ p (σ (5 + p)) (be ρ σ p n) n.toNat) := by
      show itr (bst2 (fun e => tl ρ σ p (σ (5 + p)) e n.toNat)) 9 (0 + 1) (bst2 (fun e => tl ρ σ p (σ (5 + p)) e n.toNat) (0, -1) 0) = _
      rw [h2]
      exact bst2_bst (fun e => tl ρ σ p (σ (5 + p)) e n.toNat) _ _ _
    rw [h3] at e1
    refine ⟨_, A', ?_, u1_eq .., ke.u F 12 _ (by omega), e2.2⟩
    simp (disch := first | omega | assumption) only [Option.bind_some, bn2_some, ii_lit, ii_neg, ii_add, ii_sub, ii_mul, ii_le, ii_lt, ii_eq, ii_ite, ii_or, ii_and, ii_bit, ii_rem, ii_div, b0_, b1_, b2_, b3_, true_and, and_true, u1_eq, u1_ne, u2_eq, u2_nk, u2_ni, uP_eq, uP_ne, gk1, gk2, gk3, gk4, gk10, gk11, gk12, gk13, gk14, gk15, gk17, gkr0, gkr7, gkr8, gkr9, gkr16, gkr18, gkr19, gkr5, gkr6, ok0, ok1, ok2, ok3, gl2_0, gl2_1, gl2_2, gl3_0, gl3_1, gl3_2, gm0, gm2, gm3, gm4, gm5, gm6, gm7, gm8, gm9, gm10, gm11, gm13, gm14, gm22, gm23, gm26, gm27, gm28, gm29, gm31, gm32, gm33, gm36, gm37, gm39, gm40, gm41, gm1, gm12, gm15, gm16, gm17, gm18, gm19, gm20, gm21, gm24, gm25, gm30, gm34, gm35, gm38, rk0, sk0, rk9, sk9, rk16, sk16, rk18, sk18, rk19, sk19, rm1, sm1, rm12, sm12, rm15, sm15, rm16, sm16, rm17, sm17, rm18, sm18, rm19, sm19, rm20, sm20, rm21, sm21, rm24, sm24, rm25, sm25, rm30, sm30, rm34, sm34, rm35, sm35, rm38, sm38, pk1, pk2, pk3, pk4, pk10, pk11, pk12, pk13, pk14, pk15, pk17, pkr5, pkr6, pm0, pm2, pm3, pm4, pm5, pm6, pm7, pm8, pm9, pm10, pm11, pm13, pz13_0, pz13_1, pm14, pz14_0, pz14_1, pm22, pm23, pm26, pm27, pm28, pm29, pm31, pm32, pm33, pm36, pm37, pm39, pm40, pm41, pl2_0, pl2_1, pl2_2, pl3_0, pl3_1, pl3_2]
    exact e1
  · intro N u y hu
    try dsimp only
    rw [f_X1_bestEvery_L10]
    simp (disch := first | omega | assumption) only [Option.bind_some, bn2_some, ii_lit, ii_neg, ii_add, ii_sub, ii_mul, ii_le, ii_lt, ii_eq, ii_ite, ii_or, ii_and, ii_bit, ii_rem, ii_div, b0_, b1_, b2_, b3_, true_and, and_true, u1_eq, u1_ne, u2_eq, u2_nk, u2_ni, uP_eq, uP_ne, gk1, gk2, gk3, gk4, gk10, gk11, gk12, gk13, gk14, gk15, gk17, gkr0, gkr7, gkr8, gkr9, gkr16, gkr18, gkr19, gkr5, gkr6, ok0, ok1, ok2, ok3, gl2_0, gl2_1, gl2_2, gl3_0, gl3_1, gl3_2, gm0, gm2, gm3, gm4, gm5, gm6, gm7, gm8, gm9, gm10, gm11, gm13, gm14, gm22, gm23, gm26, gm27, gm28, gm29, gm31, gm32, gm33, gm36, gm37, gm39, gm40, gm41, gm1, gm12, gm15, gm16, gm17, gm18, gm19, gm20, gm21, gm24, gm25, gm30, gm34, gm35, gm38, rk0, sk0, rk9, sk9, rk16, sk16, rk18, sk18, rk19, sk19, rm1, sm1, rm12, sm12, rm15, sm15, rm16, sm16, rm17, sm17, rm18, sm18, rm19, sm19, rm20, sm20, rm21, sm21, rm24, sm24, rm25, sm25, rm30, sm30, rm34, sm34, rm35, sm35, rm38, sm38, pk1, pk2, pk3, pk4, pk10, pk11, pk12, pk13, pk14, pk15, pk17, pkr5, pkr6, pm0, pm2, pm3, pm4, pm5, pm6, pm7, pm8, pm9, pm10, pm11, pm13, pz13_0, pz13_1, pm14, pz14_0, pz14_1, pm22, pm23, pm26, pm27, pm28, pm29, pm31, pm32, pm33, pm36, pm37, pm39, pm40, pm41, pl2_0, pl2_1, pl2_2, pl3_0, pl3_1, pl3_2]
    rw [if_pos (by omega)]
  · intro N u k y k1 k2 hu
    obtain ⟨A', e1, e2, e3⟩ := k_tlZ x (u1 F 12 u.2) P y f l a b hR hA (p := p) (s := σ (5 + p)) (e := k) (n := n) hp1 hp2 (by omega) (by omega) (by omega) (by omega) hn0 (by omega)
    have e4 := e2 n hn0 (Int.le_refl n)
    have ht := tl_rg (ρ := ρ) (σ := σ) (p := p) (step := σ (5 + p)) (every := k) (by omega) (by omega) (by omega) n.toNat
    refine ⟨A', ⟨?_, (e3 0 (by omega)).trans hu.2⟩, ?_⟩
    · unfold bst2
      split
      · show (-1 : Int) ≤ tl ρ σ p (σ (5 + p)) k n.toNat ∧ tl ρ σ p (σ (5 + p)) k n.toNat ≤ 1000
        omega
      · exact hu.1
    obtain ⟨⟨hu1, hu2⟩, hu3⟩ := hu
    obtain ⟨KP5, KP6, K1, K2, K3, K4, K5, K6, K7, K8, K9, K10, K11, K12, K13, K14, K15, K16, K17, K18, K19, K20, K21, K22, K23, K24, K25, K26, K27, K28, K29, K30, K31⟩ := hA
    try dsimp only
    rw [f_X1_bestEvery_L10]
    unfold f_X1_bestEvery_J63
    simp (disch := first | omega | assumption) only [Option.bind_some, bn2_some, ii_lit, ii_neg, ii_add, ii_sub, ii_mul, ii_le, ii_lt, ii_eq, ii_ite, ii_or, ii_and, ii_bit, ii_rem, ii_div, b0_, b1_, b2_, b3_, true_and, and_true, u1_eq, u1_ne, u2_eq, u2_nk, u2_ni, uP_eq, uP_ne, gk1, gk2, gk3, gk4, gk10, gk11, gk12, gk13, gk14, gk15, gk17, gkr0, gkr7, gkr8, gkr9, gkr16, gkr18, gkr19, gkr5, gkr6, ok0, ok1, ok2, ok3, gl2_0, gl2_1, gl2_2, gl3_0, gl3_1, gl3_2, gm0, gm2, gm3, gm4, gm5, gm6, gm7, gm8, gm9, gm10, gm11, gm13, gm14, gm22, gm23, gm26, gm27, gm28, gm29, gm31, gm32, gm33, gm36, gm37, gm39, gm40, gm41, gm1, gm12, gm15, gm16, gm17, gm18, gm19, gm20, gm21, gm24, gm25, gm30, gm34, gm35, gm38, rk0, sk0, rk9, sk9, rk16, sk16, rk18, sk18, rk19, sk19, rm1, sm1, rm12, sm12, rm15, sm15, rm16, sm16, rm17, sm17, rm18, sm18, rm19, sm19, rm20, sm20, rm21, sm21, rm24, sm24, rm25, sm25, rm30, sm30, rm34, sm34, rm35, sm35, rm38, sm38, pk1, pk2, pk3, pk4, pk10, pk11, pk12, pk13, pk14, pk15, pk17, pkr5, pkr6, pm0, pm2, pm3, pm4, pm5, pm6, pm7, pm8, pm9, pm10, pm11, pm13, pz13_0, pz13_1, pm14, pz14_0, pz14_1, pm22, pm23, pm26, pm27, pm28, pm29, pm31, pm32, pm33, pm36, pm37, pm39, pm40, pm41, pl2_0, pl2_1, pl2_2, pl3_0, pl3_1, pl3_2, KP6, K25, K29, e1, e4, u1_u1]
    rw [if_neg (by omega)]
    unfold bst2
    split <;> rfl
theorem k_everyFor (x : Nat) (F : Nat → Int) (P : Nat → Option Nat) (A : Nat → Int → Int) (f l : Nat → Int) (a : Nat → Int → Int) (b : fk_M) {h : Int} {ρ τ σ : Int → Int} (hK : Kq x P b h ρ τ σ) {p n : Int} (hp0 : rg p) (hn : rg n) : KO x F P A f l a b (s_everyFor h ρ σ p n) (wy (h = 1 ∧ 0 ≤ p ∧ p < ρ 2) (0 ≤ n ∧ n ≤ 60)) (f_X1_everyFor (some x) (ii p) (ii n) (hp x F P A f l a b)) := by
  unfold f_X1_everyFor s_everyFor
  rw [ok0, Option.bind_some, k_isPair x F P A f l a b hp0 hK, Option.bind_some, Option.bind_some, k_whyAhead x F P A f l a b (by (repeat' split) <;> omega) hn, Option.bind_some]
  simp only [b1_]
  have hy := wy_rg (h = 1 ∧ 0 ≤ p ∧ p < ρ 2) (0 ≤ n ∧ n ≤ 60)
  by_cases h0 : wy (h = 1 ∧ 0 ≤ p ∧ p < ρ 2) (0 ≤ n ∧ n ≤ 60) = 0
  rotate_left
  · rw [if_neg h0]
    simp (disch := first | omega | assumption) only [Option.bind_some, bn2_some, ii_lit, ii_neg, ii_add, ii_sub, ii_mul, ii_le, ii_lt, ii_eq, ii_ite, ii_or, ii_and, ii_bit, ii_rem, ii_div, b0_, b1_, b2_, b3_, true_and, and_true, u1_eq, u1_ne, u2_eq, u2_nk, u2_ni, uP_eq, uP_ne, gk1, gk2, gk3, gk4, gk10, gk11, gk12, gk13, gk14, gk15, gk17, gkr0, gkr7, gkr8, gkr9, gkr16, gkr18, gkr19, gkr5, gkr6, ok0, ok1, ok2, ok3, gl2_0, gl2_1, gl2_2, gl3_0, gl3_1, gl3_2, gm0, gm2, gm3, gm4, gm5, gm6, gm7, gm8, gm9, gm10, gm11, gm13, gm14, gm22, gm23, gm26, gm27, gm28, gm29, gm31, gm32, gm33, gm36, gm37, gm39, gm40, gm41, gm1, gm12, gm15, gm16, gm17, gm18, gm19, gm20, gm21, gm24, gm25, gm30, gm34, gm35, gm38, rk0, sk0, rk9, sk9, rk16, sk16, rk18, sk18, rk19, sk19, rm1, sm1, rm12, sm12, rm15, sm15, rm16, sm16, rm17, sm17, rm18, sm18, rm19, sm19, rm20, sm20, rm21, sm21, rm24, sm24, rm25, sm25, rm30, sm30, rm34, sm34, rm35, sm35, rm38, sm38, pk1, pk2, pk3, pk4, pk10, pk11, pk12, pk13, pk14, pk15, pk17, pkr5, pkr6, pm0, pm2, pm3, pm4, pm5, pm6, pm7, pm8, pm9, pm10, pm11, pm13, pz13_0, pz13_1, pm14, pz14_0, pz14_1, pm22, pm23, pm26, pm27, pm28, pm29, pm31, pm32, pm33, pm36, pm37, pm39, pm40, pm41, pl2_0, pl2_1, pl2_2, pl3_0, pl3_1, pl3_2, k_refused]
    rw [if_neg (by omega)]
    exact KO.ref ..
  obtain ⟨⟨rfl, hp1, hp2⟩, hn0, hn1⟩ := wy_0.mp h0
  rw [h0, if_pos (show (0 : Int) = 0 from rfl), if_pos (show ii 0 ≤ 0 by decide)]
  obtain ⟨hh, -⟩ | ⟨-, hR, q, lw, hk, pa, sg, un, l5, l6, s1, s2, s3, hA⟩ := hK
  · omega
  have hw := hR.wd
  have hq := hR.pr hp1 hp2
  clear h0 hy
  obtain ⟨F', A', e1, e2, e3, e4⟩ := k_bestEvery x F P A f l a b hR hA hp1 hp2 hn0 hn1
  refine KO.mk F' A' e3 e4 ?_
  simp (disch := first | omega | assumption) only [Option.bind_some, bn2_some, ii_lit, ii_neg, ii_add, ii_sub, ii_mul, ii_le, ii_lt, ii_eq, ii_ite, ii_or, ii_and, ii_bit, ii_rem, ii_div, b0_, b1_, b2_, b3_, true_and, and_true, u1_eq, u1_ne, u2_eq, u2_nk, u2_ni, uP_eq, uP_ne, gk1, gk2, gk3, gk4, gk10, gk11, gk12, gk13, gk14, gk15, gk17, gkr0, gkr7, gkr8, gkr9, gkr16, gkr18, gkr19, gkr5, gkr6, ok0, ok1, ok2, ok3, gl2_0, gl2_1, gl2_2, gl3_0, gl3_1, gl3_2, gm0, gm2, gm3, gm4, gm5, gm6, gm7, gm8, gm9, gm10, gm11, gm13, gm14, gm22, gm23, gm26, gm27, gm28, gm29, gm31, gm32, gm33, gm36, gm37, gm39, gm40, gm41, gm1, gm12, gm15, gm16, gm17, gm18, gm19, gm20, gm21, gm24, gm25, gm30, gm34, gm35, gm38, rk0, sk0, rk9, sk9, rk16, sk16, rk18, sk18, rk19, sk19, rm1, sm1, rm12, sm12, rm15, sm15, rm16, sm16, rm17, sm17, rm18, sm18, rm19, sm19, rm20, sm20, rm21, sm21, rm24, sm24, rm25, sm25, rm30, sm30, rm34, sm34, rm35, sm35, rm38, sm38, pk1, pk2, pk3, pk4, pk10, pk11, pk12, pk13, pk14, pk15, pk17, pkr5, pkr6, pm0, pm2, pm3, pm4, pm5, pm6, pm7, pm8, pm9, pm10, pm11, pm13, pz13_0, pz13_1, pm14, pz14_0, pz14_1, pm22, pm23, pm26, pm27, pm28, pm29, pm31, pm32, pm33, pm36, pm37, pm39, pm40, pm41, pl2_0, pl2_1, pl2_2, pl3_0, pl3_1, pl3_2, e1, k_well]
theorem k_everySays (x : Nat) (F : Nat → Int) (P : Nat → Option Nat) (A : Nat → Int → Int) (f l : Nat → Int) (a : Nat → Int → Int) (b : fk_M) {h : Int} {ρ τ σ : Int → Int} (hK : Kq x P b h ρ τ σ) {p n : Int} (hp0 : rg p) (hn : rg n) : KO x F P A f l a b (s_everySays h ρ σ p n) (wy (h = 1 ∧ 0 ≤ p ∧ p < ρ 2) (0 ≤ n ∧ n ≤ 60)) (f_X1_everySays (some x) (ii p) (ii n) (hp x F P A f l a b)) := by
  unfold f_X1_everySays s_everySays
  rw [ok0, Option.bind_some, k_isPair x F P A f l a b hp0 hK, Option.bind_some, Option.bind_some, k_whyAhead x F P A f l a b (by (repeat' split) <;> omega) hn, Option.bind_some]
  simp only [b1_]
  have hy := wy_rg (h = 1 ∧ 0 ≤ p ∧ p < ρ 2) (0 ≤ n ∧ n ≤ 60)
  by_cases h0 : wy (h = 1 ∧ 0 ≤ p ∧ p < ρ 2) (0 ≤ n ∧ n ≤ 60) = 0
  rotate_left
  · rw [if_neg h0]
    simp (disch := first | omega | assumption) only [Option.bind_some, bn2_some, ii_lit, ii_neg, ii_add, ii_sub, ii_mul, ii_le, ii_lt, ii_eq, ii_ite, ii_or, ii_and, ii_bit, ii_rem, ii_div, b0_, b1_, b2_, b3_, true_and, and_true, u1_eq, u1_ne, u2_eq, u2_nk, u2_ni, uP_eq, uP_ne, gk1, gk2, gk3, gk4, gk10, gk11, gk12, gk13, gk14, gk15, gk17, gkr0, gkr7, gkr8, gkr9, gkr16, gkr18, gkr19, gkr5, gkr6, ok0, ok1, ok2, ok3, gl2_0, gl2_1, gl2_2, gl3_0, gl3_1, gl3_2, gm0, gm2, gm3, gm4, gm5, gm6, gm7, gm8, gm9, gm10, gm11, gm13, gm14, gm22, gm23, gm26, gm27, gm28, gm29, gm31, gm32, gm33, gm36, gm37, gm39, gm40, gm41, gm1, gm12, gm15, gm16, gm17, gm18, gm19, gm20, gm21, gm24, gm25, gm30, gm34, gm35, gm38, rk0, sk0, rk9, sk9, rk16, sk16, rk18, sk18, rk19, sk19, rm1, sm1, rm12, sm12, rm15, sm15, rm16, sm16, rm17, sm17, rm18, sm18, rm19, sm19, rm20, sm20, rm21, sm21, rm24, sm24, rm25, sm25, rm30, sm30, rm34, sm34, rm35, sm35, rm38, sm38, pk1, pk2, pk3, pk4, pk10, pk11, pk12, pk13, pk14, pk15, pk17, pkr5, pkr6, pm0, pm2, pm3, pm4, pm5, pm6, pm7, pm8, pm9, pm10, pm11, pm13, pz13_0, pz13_1, pm14, pz14_0, pz14_1, pm22, pm23, pm26, pm27, pm28, pm29, pm31, pm32, pm33, pm36, pm37, pm39, pm40, pm41, pl2_0, pl2_1, pl2_2, pl3_0, pl3_1, pl3_2, k_refused]
    rw [if_neg (by omega)]
    exact KO.ref ..
  obtain ⟨⟨rfl, hp1, hp2⟩, hn0, hn1⟩ := wy_0.mp h0
  rw [h0, if_pos (show (0 : Int) = 0 from rfl), if_pos (show ii 0 ≤ 0 by decide)]
  obtain ⟨hh, -⟩ | ⟨-, hR, q, lw, hk, pa, sg, un, l5, l6, s1, s2, s3, hA⟩ := hK
  · omega
  have hw := hR.wd
  have hq := hR.pr hp1 hp2
  clear h0 hy
  obtain ⟨F', A', e1, e2, e3, e4⟩ := k_bestEvery x F P A f l a b hR hA hp1 hp2 hn0 hn1
  refine KO.mk F' A' e3 e4 ?_
  simp (disch := first | omega | assumption) only [Option.bind_some, bn2_some, ii_lit, ii_neg, ii_add, ii_sub, ii_mul, ii_le, ii_lt, ii_eq, ii_ite, ii_or, ii_and, ii_bit, ii_rem, ii_div, b0_, b1_, b2_, b3_, true_and, and_true, u1_eq, u1_ne, u2_eq, u2_nk, u2_ni, uP_eq, uP_ne, gk1, gk2, gk3, gk4, gk10, gk11, gk12, gk13, gk14, gk15, gk17, gkr0, gkr7, gkr8, gkr9, gkr16, gkr18, gkr19, gkr5, gkr6, ok0, ok1, ok2, ok3, gl2_0, gl2_1, gl2_2, gl3_0, gl3_1, gl3_2, gm0, gm2, gm3, gm4, gm5, gm6, gm7, gm8, gm9, gm10, gm11, gm13, gm14, gm22, gm23, gm26, gm27, gm28, gm29, gm31, gm32, gm33, gm36, gm37, gm39, gm40, gm41, gm1, gm12, gm15, gm16, gm17, gm18, gm19, gm20, gm21, gm24, gm25, gm30, gm34, gm35, gm38, rk0, sk0, rk9, sk9, rk16, sk16, rk18, sk18, rk19, sk19, rm1, sm1, rm12, sm12, rm15, sm15, rm16, sm16, rm17, sm17, rm18, sm18, rm19, sm19, rm20, sm20, rm21, sm21, rm24, sm24, rm25, sm25, rm30, sm30, rm34, sm34, rm35, sm35, rm38, sm38, pk1, pk2, pk3, pk4, pk10, pk11, pk12, pk13, pk14, pk15, pk17, pkr5, pkr6, pm0, pm2, pm3, pm4, pm5, pm6, pm7, pm8, pm9, pm10, pm11, pm13, pz13_0, pz13_1, pm14, pz14_0, pz14_1, pm22, pm23, pm26, pm27, pm28, pm29, pm31, pm32, pm33, pm36, pm37, pm39, pm40, pm41, pl2_0, pl2_1, pl2_2, pl3_0, pl3_1, pl3_2, e1, e2, k_well]
theorem k_never2 (x : Nat) (F : Nat → Int) (P : Nat → Option Nat) (A : Nat → Int → Int) (f l : Nat → Int) (a : Nat → Int → Int) (b : fk_M) {q lw hk : Int → Nat} {pa sg un l5 l6 s1 s2 s3 : Nat} {ρ τ σ : Int → Int} (hR : Rg ρ τ σ) (hA : Api x P b ρ τ σ q lw hk pa sg un l5 l6 s1 s2 s3) {p e : Int} (hp1 : 0 ≤ p) (hp2 : p < ρ 2) (he : 0 ≤ e) (he2 : e ≤ 9) (h9 : ∀ j : Int, 0 ≤ j → j ≤ 60 → A 9 j = tl ρ σ p (σ (5 + p)) e j.toNat) (R : Int32 → fk_M → Option (Int32 × fk_M)) : f_X1_everyNever_L44 R (some x) (ii p) (ii e) (hp x F P A f l a b) fk_fuel (ii 1) (ii 1) = if nv ρ σ p e = -2 then some (ii e, hp x (Fo F 0) P A f l a b) else R (ii (e + 1)) (hp x F P A f l a b) := by
  have hw := hR.wd
  have hq := hR.pr hp1 hp2
  have hL := loop_it (fun N (u : Int) k => f_X1_everyNever_L44 R (some x) (ii p) (ii e) (hp x F P A f l a b) N (ii u) (ii k)) (fun u k => if ρ 0 < 2 * tl ρ σ p (σ (5 + p)) e k.toNat then 0 else u) (fun u => if u = 0 then R (ii (e + 1)) (hp x F P A f l a b) else some (ii e, hp x (Fo F 0) P A f l a b)) (fun u k => u = 0 ∨ u = 1) (lo := 1) (hi := 61) ?_ ?_ 60 fk_fuel 1 1 (by omega) (by omega) (by unfold fk_fuel; omega) (by omega)
  · rw [hL.1]
    have hn : ∀ (d : Nat) (k : Int), itr (fun u k => if ρ 0 < 2 * tl ρ σ p (σ (5 + p)) e k.toNat then 0 else u) d k 0 = (0 : Int) := by
      intro d
      induction d with
      | zero => intro k; rfl
      | succ d ih =>
        intro k
        show itr _ d (k + 1) (if ρ 0 < 2 * tl ρ σ p (σ (5 + p)) e k.toNat then 0 else 0) = 0
        rw [show (if ρ 0 < 2 * tl ρ σ p (σ (5 + p)) e k.toNat then (0 : Int) else 0) = 0 by split <;> rfl]
        exact ih _
    have hm : ∀ (d : Nat) (k : Int), 1 ≤ k → (itr (fun u k => if ρ 0 < 2 * tl ρ σ p (σ (5 + p)) e k.toNat then 0 else u) d k 1 = (0 : Int) ↔ ¬ fd (fun k => ρ 0 < 2 * tl ρ σ p (σ (5 + p)) e k.toNat) d k (-2) = -2) := by
      intro d
      induction d with
      | zero =>
        intro k hk
        show ((1 : Int) = 0 ↔ ¬ (-2 : Int) = -2)
        omega
      | succ d ih =>
        intro k hk
        show (itr (fun u k => if ρ 0 < 2 * tl ρ σ p (σ (5 + p)) e k.toNat then 0 else u) d (k + 1) (if ρ 0 < 2 * tl ρ σ p (σ (5 + p)) e k.toNat then 0 else 1) = 0 ↔ ¬ (if ρ 0 < 2 * tl ρ σ p (σ (5 + p)) e k.toNat then some k else fn (fun k => ρ 0 < 2 * tl ρ σ p (σ (5 + p)) e k.toNat) d (k + 1)).getD (-2) = -2)
        by_cases hc : ρ 0 < 2 * tl ρ σ p (σ (5 + p)) e k.toNat
        · rw [if_pos hc, if_pos hc, hn]
          show ((0 : Int) = 0 ↔ ¬ k = -2)
          omega
        · rw [if_neg hc, if_neg hc]
          exact ih (k + 1) (by omega)
    have h5 := hm 60 1 (by omega)
    unfold nv
    by_cases hc : fd (fun k => ρ 0 < 2 * tl ρ σ p (σ (5 + p)) e k.toNat) 60 1 (-2) = -2
    · rw [if_neg (fun h => h5.mp h hc), if_pos hc]
    · rw [if_pos (h5.mpr hc), if_neg hc]
  · intro N u hu
    try dsimp only
    rw [f_X1_everyNever_L44]
    simp (disch := first | omega | assumption) only [Option.bind_some, bn2_some, ii_lit, ii_neg, ii_add, ii_sub, ii_mul, ii_le, ii_lt, ii_eq, ii_ite, ii_or, ii_and, ii_bit, ii_rem, ii_div, b0_, b1_, b2_, b3_, true_and, and_true, u1_eq, u1_ne, u2_eq, u2_nk, u2_ni, uP_eq, uP_ne, gk1, gk2, gk3, gk4, gk10, gk11, gk12, gk13, gk14, gk15, gk17, gkr0, gkr7, gkr8, gkr9, gkr16, gkr18, gkr19, gkr5, gkr6, ok0, ok1, ok2, ok3, gl2_0, gl2_1, gl2_2, gl3_0, gl3_1, gl3_2, gm0, gm2, gm3, gm4, gm5, gm6, gm7, gm8, gm9, gm10, gm11, gm13, gm14, gm22, gm23, gm26, gm27, gm28, gm29, gm31, gm32, gm33, gm36, gm37, gm39, gm40, gm41, gm1, gm12, gm15, gm16, gm17, gm18, gm19, gm20, gm21, gm24, gm25, gm30, gm34, gm35, gm38, rk0, sk0, rk9, sk9, rk16, sk16, rk18, sk18, rk19, sk19, rm1, sm1, rm12, sm12, rm15, sm15, rm16, sm16, rm17, sm17, rm18, sm18, rm19, sm19, rm20, sm20, rm21, sm21, rm24, sm24, rm25, sm25, rm30, sm30, rm34, sm34, rm35, sm35, rm38, sm38, pk1, pk2, pk3, pk4, pk10, pk11, pk12, pk13, pk14, pk15, pk17, pkr5, pkr6, pm0, pm2, pm3, pm4, pm5, pm6, pm7, pm8, pm9, pm10, pm11, pm13, pz13_0, pz13_1, pm14, pz14_0, pz14_1, pm22, pm23, pm26, pm27, pm28, pm29, pm31, pm32, pm33, pm36, pm37, pm39, pm40, pm41, pl2_0, pl2_1, pl2_2, pl3_0, pl3_1, pl3_2, k_well]
    rw [if_pos (by omega)]
  · intro N u k k1 k2 hu
    have e4 := h9 k (by omega) (by omega)
    have ht := tl_rg (ρ := ρ) (σ := σ) (p := p) (step := σ (5 + p)) (every := e) (by omega) (by omega) (by omega) k.toNat
    have e5 := k_isMore x F P A f l a b hR hA (v := tl ρ σ p (σ (5 + p)) e k.toNat) (by omega) (by omega)
    refine ⟨by split <;> omega, ?_⟩
    try dsimp only
    rw [f_X1_everyNever_L44]
    simp (disch := first | omega | assumption) only [Option.bind_some, bn2_some, ii_lit, ii_neg, ii_add, ii_sub, ii_mul, ii_le, ii_lt, ii_eq, ii_ite, ii_or, ii_and, ii_bit, ii_rem, ii_div, b0_, b1_, b2_, b3_, true_and, and_true, u1_eq, u1_ne, u2_eq, u2_nk, u2_ni, uP_eq, uP_ne, gk1, gk2, gk3, gk4, gk10, gk11, gk12, gk13, gk14, gk15, gk17, gkr0, gkr7, gkr8, gkr9, gkr16, gkr18, gkr19, gkr5, gkr6, ok0, ok1, ok2, ok3, gl2_0, gl2_1, gl2_2, gl3_0, gl3_1, gl3_2, gm0, gm2, gm3, gm4, gm5, gm6, gm7, gm8, gm9, gm10, gm11, gm13, gm14, gm22, gm23, gm26, gm27, gm28, gm29, gm31, gm32, gm33, gm36, gm37, gm39, gm40, gm41, gm1, gm12, gm15, gm16, gm17, gm18, gm19, gm20, gm21, gm24, gm25, gm30, gm34, gm35, gm38, rk0, sk0, rk9, sk9, rk16, sk16, rk18, sk18, rk19, sk19, rm1, sm1, rm12, sm12, rm15, sm15, rm16, sm16, rm17, sm17, rm18, sm18, rm19, sm19, rm20, sm20, rm21, sm21, rm24, sm24, rm25, sm25, rm30, sm30, rm34, sm34, rm35, sm35, rm38, sm38, pk1, pk2, pk3, pk4, pk10, pk11, pk12, pk13, pk14, pk15, pk17, pkr5, pkr6, pm0, pm2, pm3, pm4, pm5, pm6, pm7, pm8, pm9, pm10, pm11, pm13, pz13_0, pz13_1, pm14, pz14_0, pz14_1, pm22, pm23, pm26, pm27, pm28, pm29, pm31, pm32, pm33, pm36, pm37, pm39, pm40, pm41, pl2_0, pl2_1, pl2_2, pl3_0, pl3_1, pl3_2, e4, e5]
    rw [if_neg (by omega)]
    (repeat' split) <;> first | rfl | omega
theorem k_everyNever (x : Nat) (F : Nat → Int) (P : Nat → Option Nat) (A : Nat → Int → Int) (f l : Nat → Int) (a : Nat → Int → Int) (b : fk_M) {h : Int} {ρ τ σ : Int → Int} (hK : Kq x P b h ρ τ σ) {p : Int} (hp0 : rg p) : KO x F P A f l a b (s_everyNever h ρ σ p) (if (h = 1 ∧ 0 ≤ p ∧ p < ρ 2) then 0 else 1) (f_X1_everyNever (some x) (ii p) (hp x F P A f l a b)) := by
  unfold f_X1_everyNever s_everyNever
  rw [ok0, Option.bind_some, k_isPair x F P A f l a b hp0 hK, Option.bind_some]
  by_cases h0 : (h = 1 ∧ 0 ≤ p ∧ p < ρ 2)
  rotate_left
  · rw [if_neg h0, if_neg h0, if_neg h0, if_pos (show ii 0 = 0 by decide)]
    simp (disch := first | omega | assumption) only [Option.bind_some, bn2_some, ii_lit, ii_neg, ii_add, ii_sub, ii_mul, ii_le, ii_lt, ii_eq, ii_ite, ii_or, ii_and, ii_bit, ii_rem, ii_div, b0_, b1_, b2_, b3_, true_and, and_true, u1_eq, u1_ne, u2_eq, u2_nk, u2_ni, uP_eq, uP_ne, gk1, gk2, gk3, gk4, gk10, gk11, gk12, gk13, gk14, gk15, gk17, gkr0, gkr7, gkr8, gkr9, gkr16, gkr18, gkr19, gkr5, gkr6, ok0, ok1, ok2, ok3, gl2_0, gl2_1, gl2_2, gl3_0, gl3_1, gl3_2, gm0, gm2, gm3, gm4, gm5, gm6, gm7, gm8, gm9, gm10, gm11, gm13, gm14, gm22, gm23, gm26, gm27, gm28, gm29, gm31, gm32, gm33, gm36, gm37, gm39, gm40, gm41, gm1, gm12, gm15, gm16, gm17, gm18, gm19, gm20, gm21, gm24, gm25, gm30, gm34, gm35, gm38, rk0, sk0, rk9, sk9, rk16, sk16, rk18, sk18, rk19, sk19, rm1, sm1, rm12, sm12, rm15, sm15, rm16, sm16, rm17, sm17, rm18, sm18, rm19, sm19, rm20, sm20, rm21, sm21, rm24, sm24, rm25, sm25, rm30, sm30, rm34, sm34, rm35, sm35, rm38, sm38, pk1, pk2, pk3, pk4, pk10, pk11, pk12, pk13, pk14, pk15, pk17, pkr5, pkr6, pm0, pm2, pm3, pm4, pm5, pm6, pm7, pm8, pm9, pm10, pm11, pm13, pz13_0, pz13_1, pm14, pz14_0, pz14_1, pm22, pm23, pm26, pm27, pm28, pm29, pm31, pm32, pm33, pm36, pm37, pm39, pm40, pm41, pl2_0, pl2_1, pl2_2, pl3_0, pl3_1, pl3_2, k_refused]
    exact KO.ref ..
  rw [if_pos h0, if_pos h0, if_pos h0, if_neg (show ¬ ii 1 = 0 by decide)]
  obtain ⟨rfl, hp1, hp2⟩ := h0
  obtain ⟨hh, -⟩ | ⟨-, hR, q, lw, hk, pa, sg, un, l5, l6, s1, s2, s3, hA⟩ := hK
  · omega
  have hw := hR.wd
  have hq := hR.pr hp1 hp2
  have hL := loop_exf (fun N k (y : Nat → Int → Int) => f_X1_everyNever_L16 (some x) (ii p) N (ii k) (hp x F P y f l a b)) (fun e => nv ρ σ p e = -2) (fun u y => some (ii u, hp x (Fo F 0) P y f l a b)) (-2) (fun y => y 0 = A 0) (lo := 0) (hi := 10) ?_ ?_ 10 fk_fuel 0 A (by omega) (by omega) (by unfold fk_fuel; omega) rfl
  · obtain ⟨A', e1, e2⟩ := hL
    exact KO.mk F A' (ke.rfl' _) e2 e1
  · intro N y hy
    try dsimp only
    rw [f_X1_everyNever_L16]
    simp (disch := first | omega | assumption) only [Option.bind_some, bn2_some, ii_lit, ii_neg, ii_add, ii_sub, ii_mul, ii_le, ii_lt, ii_eq, ii_ite, ii_or, ii_and, ii_bit, ii_rem, ii_div, b0_, b1_, b2_, b3_, true_and, and_true, u1_eq, u1_ne, u2_eq, u2_nk, u2_ni, uP_eq, uP_ne, gk1, gk2, gk3, gk4, gk10, gk11, gk12, gk13, gk14, gk15, gk17, gkr0, gkr7, gkr8, gkr9, gkr16, gkr18, gkr19, gkr5, gkr6, ok0, ok1, ok2, ok3, gl2_0, gl2_1, gl2_2, gl3_0, gl3_1, gl3_2, gm0, gm2, gm3, gm4, gm5, gm6, gm7, gm8, gm9, gm10, gm11, gm13, gm14, gm22, gm23, gm26, gm27, gm28, gm29, gm31, gm32, gm33, gm36, gm37, gm39, gm40, gm41, gm1, gm12, gm15, gm16, gm17, gm18, gm19, gm20, gm21, gm24, gm25, gm30, gm34, gm35, gm38, rk0, sk0, rk9, sk9, rk16, sk16, rk18, sk18, rk19, sk19, rm1, sm1, rm12, sm12, rm15, sm15, rm16, sm16, rm17, sm17, rm18, sm18, rm19, sm19, rm20, sm20, rm21, sm21, rm24, sm24, rm25, sm25, rm30, sm30, rm34, sm34, rm35, sm35, rm38, sm38, pk1, pk2, pk3, pk4, pk10, pk11, pk12, pk13, pk14, pk15, pk17, pkr5, pkr6, pm0, pm2, pm3, pm4, pm5, pm6, pm7, pm8, pm9, pm10, pm11, pm13, pz13_0, pz13_1, pm14, pz14_0, pz14_1, pm22, pm23, pm26, pm27, pm28, pm29, pm31, pm32, pm33, pm36, pm37, pm39, pm40, pm41, pl2_0, pl2_1, pl2_2, pl3_0, pl3_1, pl3_2, k_well]
    rw [if_pos (by omega)]
  · intro N k y k1 k2 hy
    obtain ⟨A', e1, e2, e3⟩ := k_tlZ x F P y f l a b hR hA (p := p) (s := σ (5 + p)) (e := k) (n := 60) hp1 hp2 (by omega) (by omega) (by omega) (by omega) (by omega) (by omega)
    have e4 := k_never2 x F P A' f l a b hR hA (p := p) (e := k) hp1 hp2 k1 (by omega) e2 (f_X1_everyNever_L16 (some x) (ii p) N)
    refine ⟨A', (e3 0 (by omega)).trans hy, ?_⟩
    obtain ⟨KP5, KP6, K1, K2, K3, K4, K5, K6, K7, K8, K9, K10, K11, K12, K13, K14, K15, K16, K17, K18, K19, K20, K21, K22, K23, K24, K25, K26, K27, K28, K29, K30, K31⟩ := hA
    try dsimp only
    rw [f_X1_everyNever_L16]
    simp (disch := first | omega | assumption) only [Option.bind_some, bn2_some, ii_lit, ii_neg, ii_add, ii_sub, ii_mul, ii_le, ii_lt, ii_eq, ii_ite, ii_or, ii_and, ii_bit, ii_rem, ii_div, b0_, b1_, b2_, b3_, true_and, and_true, u1_eq, u1_ne, u2_eq, u2_nk, u2_ni, uP_eq, uP_ne, gk1, gk2, gk3, gk4, gk10, gk11, gk12, gk13, gk14, gk15, gk17, gkr0, gkr7, gkr8, gkr9, gkr16, gkr18, gkr19, gkr5, gkr6, ok0, ok1, ok2, ok3, gl2_0, gl2_1, gl2_2, gl3_0, gl3_1, gl3_2, gm0, gm2, gm3, gm4, gm5, gm6, gm7, gm8, gm9, gm10, gm11, gm13, gm14, gm22, gm23, gm26, gm27, gm28, gm29, gm31, gm32, gm33, gm36, gm37, gm39, gm40, gm41, gm1, gm12, gm15, gm16, gm17, gm18, gm19, gm20, gm21, gm24, gm25, gm30, gm34, gm35, gm38, rk0, sk0, rk9, sk9, rk16, sk16, rk18, sk18, rk19, sk19, rm1, sm1, rm12, sm12, rm15, sm15, rm16, sm16, rm17, sm17, rm18, sm18, rm19, sm19, rm20, sm20, rm21, sm21, rm24, sm24, rm25, sm25, rm30, sm30, rm34, sm34, rm35, sm35, rm38, sm38, pk1, pk2, pk3, pk4, pk10, pk11, pk12, pk13, pk14, pk15, pk17, pkr5, pkr6, pm0, pm2, pm3, pm4, pm5, pm6, pm7, pm8, pm9, pm10, pm11, pm13, pz13_0, pz13_1, pm14, pz14_0, pz14_1, pm22, pm23, pm26, pm27, pm28, pm29, pm31, pm32, pm33, pm36, pm37, pm39, pm40, pm41, pl2_0, pl2_1, pl2_2, pl3_0, pl3_1, pl3_2, KP6, K25, K29, e1, e4]
    rw [if_neg (by omega)]
theorem k_stepFor (x : Nat) (F : Nat → Int) (P : Nat → Option Nat) (A : Nat → Int → Int) (f l : Nat → Int) (a : Nat → Int → Int) (b : fk_M) {h : Int} {ρ τ σ : Int → Int} (hK : Kq x P b h ρ τ σ) {p n : Int} (hp0 : rg p) (hn : rg n) : KO x F P A f l a b (s_stepFor h ρ σ p n) (wy (h = 1 ∧ 0 ≤ p ∧ p < ρ 2) (0 ≤ n ∧ n ≤ 60)) (f_X1_stepFor (some x) (ii p) (ii n) (hp x F P A f l a b)) := by
  unfold f_X1_stepFor s_stepFor
  rw [ok0, Option.bind_some, k_isPair x F P A f l a b hp0 hK, Option.bind_some, Option.bind_some, k_whyAhead x F P A f l a b (by (repeat' split) <;> omega) hn, Option.bind_some]
  simp only [b1_]
  have hy := wy_rg (h = 1 ∧ 0 ≤ p ∧ p < ρ 2) (0 ≤ n ∧ n ≤ 60)
  by_cases h0 : wy (h = 1 ∧ 0 ≤ p ∧ p < ρ 2) (0 ≤ n ∧ n ≤ 60) = 0
  rotate_left
  · rw [if_neg h0]
    simp (disch := first | omega | assumption) only [Option.bind_some, bn2_some, ii_lit, ii_neg, ii_add, ii_sub, ii_mul, ii_le, ii_lt, ii_eq, ii_ite, ii_or, ii_and, ii_bit, ii_rem, ii_div, b0_, b1_, b2_, b3_, true_and, and_true, u1_eq, u1_ne, u2_eq, u2_nk, u2_ni, uP_eq, uP_ne, gk1, gk2, gk3, gk4, gk10, gk11, gk12, gk13, gk14, gk15, gk17, gkr0, gkr7, gkr8, gkr9, gkr16, gkr18, gkr19, gkr5, gkr6, ok0, ok1, ok2, ok3, gl2_0, gl2_1, gl2_2, gl3_0, gl3_1, gl3_2, gm0, gm2, gm3, gm4, gm5, gm6, gm7, gm8, gm9, gm10, gm11, gm13, gm14, gm22, gm23, gm26, gm27, gm28, gm29, gm31, gm32, gm33, gm36, gm37, gm39, gm40, gm41, gm1, gm12, gm15, gm16, gm17, gm18, gm19, gm20, gm21, gm24, gm25, gm30, gm34, gm35, gm38, rk0, sk0, rk9, sk9, rk16, sk16, rk18, sk18, rk19, sk19, rm1, sm1, rm12, sm12, rm15, sm15, rm16, sm16, rm17, sm17, rm18, sm18, rm19, sm19, rm20, sm20, rm21, sm21, rm24, sm24, rm25, sm25, rm30, sm30, rm34, sm34, rm35, sm35, rm38, sm38, pk1, pk2, pk3, pk4, pk10, pk11, pk12, pk13, pk14, pk15, pk17, pkr5, pkr6, pm0, pm2, pm3, pm4, pm5, pm6, pm7, pm8, pm9, pm10, pm11, pm13, pz13_0, pz13_1, pm14, pz14_0, pz14_1, pm22, pm23, pm26, pm27, pm28, pm29, pm31, pm32, pm33, pm36, pm37, pm39, pm40, pm41, pl2_0, pl2_1, pl2_2, pl3_0, pl3_1, pl3_2, k_refused]
    rw [if_neg (by omega)]
    exact KO.ref ..
  obtain ⟨⟨rfl, hp1, hp2⟩, hn0, hn1⟩ := wy_0.mp h0
  rw [h0, if_pos (show (0 : Int) = 0 from rfl), if_pos (show ii 0 ≤ 0 by decide)]
  obtain ⟨hh, -⟩ | ⟨-, hR, q, lw, hk, pa, sg, un, l5, l6, s1, s2, s3, hA⟩ := hK
  · omega
  have hw := hR.wd
  have hq := hR.pr hp1 hp2
  clear h0 hy
  have hL := loop_exf (fun N k (y : Nat → Int → Int) => f_X1_stepFor_L24 (some x) (ii p) (ii n) N (ii k) (hp x F P y f l a b)) (fun s => ρ 0 < 2 * tl ρ σ p s (ρ (13 + p)) n.toNat) (fun u y => some (ii u, hp x (Fo F 0) P y f l a b)) (-2) (fun y => y 0 = A 0) (lo := 0) (hi := 21) ?_ ?_ 21 fk_fuel 0 A (by omega) (by omega) (by unfold fk_fuel; omega) rfl
  · obtain ⟨A', e1, e2⟩ := hL
    exact KO.mk F A' (ke.rfl' _) e2 e1
  · intro N y hy
    try dsimp only
    rw [f_X1_stepFor_L24]
    simp (disch := first | omega | assumption) only [Option.bind_some, bn2_some, ii_lit, ii_neg, ii_add, ii_sub, ii_mul, ii_le, ii_lt, ii_eq, ii_ite, ii_or, ii_and, ii_bit, ii_rem, ii_div, b0_, b1_, b2_, b3_, true_and, and_true, u1_eq, u1_ne, u2_eq, u2_nk, u2_ni, uP_eq, uP_ne, gk1, gk2, gk3, gk4, gk10, gk11, gk12, gk13, gk14, gk15, gk17, gkr0, gkr7, gkr8, gkr9, gkr16, gkr18, gkr19, gkr5, gkr6, ok0, ok1, ok2, ok3, gl2_0, gl2_1, gl2_2, gl3_0, gl3_1, gl3_2, gm0, gm2, gm3, gm4, gm5, gm6, gm7, gm8, gm9, gm10, gm11, gm13, gm14, gm22, gm23, gm26, gm27, gm28, gm29, gm31, gm32, gm33, gm36, gm37, gm39, gm40, gm41, gm1, gm12, gm15, gm16, gm17, gm18, gm19, gm20, gm21, gm24, gm25, gm30, gm34, gm35, gm38, rk0, sk0, rk9, sk9, rk16, sk16, rk18, sk18, rk19, sk19, rm1, sm1, rm12, sm12, rm15, sm15, rm16, sm16, rm17, sm17, rm18, sm18, rm19, sm19, rm20, sm20, rm21, sm21, rm24, sm24, rm25, sm25, rm30, sm30, rm34, sm34, rm35, sm35, rm38, sm38, pk1, pk2, pk3, pk4, pk10, pk11, pk12, pk13, pk14, pk15, pk17, pkr5, pkr6, pm0, pm2, pm3, pm4, pm5, pm6, pm7, pm8, pm9, pm10, pm11, pm13, pz13_0, pz13_1, pm14, pz14_0, pz14_1, pm22, pm23, pm26, pm27, pm28, pm29, pm31, pm32, pm33, pm36, pm37, pm39, pm40, pm41, pl2_0, pl2_1, pl2_2, pl3_0, pl3_1, pl3_2, k_well]
    rw [if_pos (by omega)]
  · intro N k y k1 k2 hy
    obtain ⟨A', e1, e2, e3⟩ := k_tlZ x F P y f l a b hR hA (p := p) (s := k) (e := ρ (13 + p)) (n := n) hp1 hp2 (by omega) (by omega) (by omega) (by omega) (by omega) (by omega)
    have e4 := e2 n hn0 (Int.le_refl n)
    have ht := tl_rg (ρ := ρ) (σ := σ) (p := p) (step := k) (every := ρ (13 + p)) (by omega) (by omega) (by omega) n.toNat
    have e5 := k_isMore x F P A' f l a b hR hA (v := tl ρ σ p k (ρ (13 + p)) n.toNat) (by omega) (by omega)
    refine ⟨A', (e3 0 (by omega)).trans hy, ?_⟩
    obtain ⟨KP5, KP6, K1, K2, K3, K4, K5, K6, K7, K8, K9, K10, K11, K12, K13, K14, K15, K16, K17, K18, K19, K20, K21, K22, K23, K24, K25, K26, K27, K28, K29, K30, K31⟩ := hA
    try dsimp only
    rw [f_X1_stepFor_L24]
    simp (disch := first | omega | assumption) only [Option.bind_some, bn2_some, ii_lit, ii_neg, ii_add, ii_sub, ii_mul, ii_le, ii_lt, ii_eq, ii_ite, ii_or, ii_and, ii_bit, ii_rem, ii_div, b0_, b1_, b2_, b3_, true_and, and_true, u1_eq, u1_ne, u2_eq, u2_nk, u2_ni, uP_eq, uP_ne, gk1, gk2, gk3, gk4, gk10, gk11, gk12, gk13, gk14, gk15, gk17, gkr0, gkr7, gkr8, gkr9, gkr16, gkr18, gkr19, gkr5, gkr6, ok0, ok1, ok2, ok3, gl2_0, gl2_1, gl2_2, gl3_0, gl3_1, gl3_2, gm0, gm2, gm3, gm4, gm5, gm6, gm7, gm8, gm9, gm10, gm11, gm13, gm14, gm22, gm23, gm26, gm27, gm28, gm29, gm31, gm32, gm33, gm36, gm37, gm39, gm40, gm41, gm1, gm12, gm15, gm16, gm17, gm18, gm19, gm20, gm21, gm24, gm25, gm30, gm34, gm35, gm38, rk0, sk0, rk9, sk9, rk16, sk16, rk18, sk18, rk19, sk19, rm1, sm1, rm12, sm12, rm15, sm15, rm16, sm16, rm17, sm17, rm18, sm18, rm19, sm19, rm20, sm20, rm21, sm21, rm24, sm24, rm25, sm25, rm30, sm30, rm34, sm34, rm35, sm35, rm38, sm38, pk1, pk2, pk3, pk4, pk10, pk11, pk12, pk13, pk14, pk15, pk17, pkr5, pkr6, pm0, pm2, pm3, pm4, pm5, pm6, pm7, pm8, pm9, pm10, pm11, pm13, pz13_0, pz13_1, pm14, pz14_0, pz14_1, pm22, pm23, pm26, pm27, pm28, pm29, pm31, pm32, pm33, pm36, pm37, pm39, pm40, pm41, pl2_0, pl2_1, pl2_2, pl3_0, pl3_1, pl3_2, K2, K3, e1, e4, e5, k_well]
    rw [if_neg (by omega)]
    (repeat' split) <;> first | rfl | omega
theorem k_pair (x : Nat) (F : Nat → Int) (P : Nat → Option Nat) (A : Nat → Int → Int) (f l : Nat → Int) (a : Nat → Int → Int) (b : fk_M) {h : Int} {ρ τ σ : Int → Int} (hK : Kq x P b h ρ τ σ) {p w : Int} (hp0 : rg p) (hw0 : rg w) : KO x F P A f l a b (s_pair h ρ σ p w) (if (h = 1 ∧ 0 ≤ p ∧ p < ρ 2) ∧ 0 ≤ w ∧ w ≤ 5 then 0 else 1) (f_X1_pair (some x) (ii p) (ii w) (hp x F P A f l a b)) := by
  unfold f_X1_pair s_pair
  rw [ok0, Option.bind_some, k_isPair x F P A f l a b hp0 hK, Option.bind_some]
  have e5 : f_X1_in (ii w) 0 5 (hp x F P A f l a b) = some (ii (if 0 ≤ w ∧ w ≤ 5 then 1 else 0)) := k_in _ (lo := 0) (hi := 5) hw0 (by omega) (by omega)
  rw [e5]
  by_cases h0 : (h = 1 ∧ 0 ≤ p ∧ p < ρ 2) ∧ 0 ≤ w ∧ w ≤ 5
  rotate_left
  · rw [if_neg h0, if_neg h0]
    have e6 : f_X1_pair_J17 (some x) (hp x F P A f l a b) = some (ii (-1), hp x (Fo F 1) P A f l a b) := by
      unfold f_X1_pair_J17
      simp (disch := first | omega | assumption) only [Option.bind_some, bn2_some, ii_lit, ii_neg, ii_add, ii_sub, ii_mul, ii_le, ii_lt, ii_eq, ii_ite, ii_or, ii_and, ii_bit, ii_rem, ii_div, b0_, b1_, b2_, b3_, true_and, and_true, u1_eq, u1_ne, u2_eq, u2_nk, u2_ni, uP_eq, uP_ne, gk1, gk2, gk3, gk4, gk10, gk11, gk12, gk13, gk14, gk15, gk17, gkr0, gkr7, gkr8, gkr9, gkr16, gkr18, gkr19, gkr5, gkr6, ok0, ok1, ok2, ok3, gl2_0, gl2_1, gl2_2, gl3_0, gl3_1, gl3_2, gm0, gm2, gm3, gm4, gm5, gm6, gm7, gm8, gm9, gm10, gm11, gm13, gm14, gm22, gm23, gm26, gm27, gm28, gm29, gm31, gm32, gm33, gm36, gm37, gm39, gm40, gm41, gm1, gm12, gm15, gm16, gm17, gm18, gm19, gm20, gm21, gm24, gm25, gm30, gm34, gm35, gm38, rk0, sk0, rk9, sk9, rk16, sk16, rk18, sk18, rk19, sk19, rm1, sm1, rm12, sm12, rm15, sm15, rm16, sm16, rm17, sm17, rm18, sm18, rm19, sm19, rm20, sm20, rm21, sm21, rm24, sm24, rm25, sm25, rm30, sm30, rm34, sm34, rm35, sm35, rm38, sm38, pk1, pk2, pk3, pk4, pk10, pk11, pk12, pk13, pk14, pk15, pk17, pkr5, pkr6, pm0, pm2, pm3, pm4, pm5, pm6, pm7, pm8, pm9, pm10, pm11, pm13, pz13_0, pz13_1, pm14, pz14_0, pz14_1, pm22, pm23, pm26, pm27, pm28, pm29, pm31, pm32, pm33, pm36, pm37, pm39, pm40, pm41, pl2_0, pl2_1, pl2_2, pl3_0, pl3_1, pl3_2, k_refused]
    by_cases h1 : (h = 1 ∧ 0 ≤ p ∧ p < ρ 2)
    · have h2 : ¬ (0 ≤ w ∧ w ≤ 5) := fun h3 => h0 ⟨h1, h3⟩
      rw [if_pos h1, if_neg (show ¬ ii 1 = 0 by decide), if_neg h2, Option.bind_some, if_pos (show ii 0 = 0 by decide), e6]
      exact KO.ref ..
    · rw [if_neg h1, if_pos (show ii 0 = 0 by decide), e6]
      exact KO.ref ..
  rw [if_pos h0, if_pos h0, if_pos h0.1, if_neg (show ¬ ii 1 = 0 by decide), if_pos h0.2, Option.bind_some, if_neg (show ¬ ii 1 = 0 by decide)]
  obtain ⟨⟨rfl, hp1, hp2⟩, hw1⟩ := h0
  obtain ⟨hh, -⟩ | ⟨-, hR, q, lw, hk, pa, sg, un, l5, l6, s1, s2, s3, hA⟩ := hK
  · omega
  have hw := hR.wd
  have hq := hR.pr hp1 hp2
  have h6 : w = 0 ∨ w = 1 ∨ w = 2 ∨ w = 3 ∨ w = 4 ∨ w = 5 := by omega
  refine KO.mk F A (ke.rfl' _) rfl ?_
  have e7 := k_isMore x F P A f l a b hR hA (v := σ p) (by omega) (by omega)
  obtain ⟨KP5, KP6, K1, K2, K3, K4, K5, K6, K7, K8, K9, K10, K11, K12, K13, K14, K15, K16, K17, K18, K19, K20, K21, K22, K23, K24, K25, K26, K27, K28, K29, K30, K31⟩ := hA
  rcases h6 with rfl | rfl | rfl | rfl | rfl | rfl
  all_goals simp (disch := first | omega | assumption) only [ii_lit, ii_neg, ii_add, ii_sub, ii_mul, ii_le, ii_lt, ii_eq, ii_ite, ii_or, ii_and, ii_bit, ii_rem, ii_div, b0_, b1_, b2_, b3_, true_and, and_true, Option.bind_some, bn2_some, gkr5, gkr6, ok0, KP5, KP6, K2, K3, K7, K8, K10, K24, K25, K28, K29, e7, k_well]
  all_goals (repeat' split) <;> first | rfl | omega
