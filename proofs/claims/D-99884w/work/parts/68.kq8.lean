/-! PLAIN 18: the component: the gallery's odds -/
set_option maxRecDepth 100000
theorem k_vo78 (x : Nat) (F : Nat → Int) (P : Nat → Option Nat) (A : Nat → Int → Int) (f l : Nat → Int) (a : Nat → Int → Int) (b : fk_M) {q lw hk : Int → Nat} {pa sg un l5 l6 s1 s2 s3 : Nat} {ρ τ σ : Int → Int} (hR : Rg ρ τ σ) (hA : Api x P b ρ τ σ q lw hk pa sg un l5 l6 s1 s2 s3) {p n code up al : Int} (c : Int32) (hp0 : rg p) (hn : 0 ≤ n) (hn2 : n ≤ 4) (hc : 0 ≤ code) (hc2 : code ≤ 100000) (h38 : ∀ t, 0 ≤ t → t < 5 → A 19 t = 0) (R : Int32 → Int32 → fk_M → Option (Int64 × fk_M)) : ∃ A', f_X1_verdictOdds_L78 R (some x) (ii p) (ii n) c (ii al) (ii up) (ii code) fk_fuel (ii code) (ii 0) (hp x F P A f l a b) = R (ii (voc ρ p n up code)) (ii (code + 1)) (hp x F P A' f l a b) ∧ (∀ j, j ≠ 19 → A' j = A j) := by
  have hw := hR.wd
  have hL := loop_ex (fun N (u : Int × (Int → Int)) k (y : Nat → Int → Int) => f_X1_verdictOdds_L78 R (some x) (ii p) (ii n) c (ii al) (ii up) (ii code) N (ii u.1) (ii k) (hp x F P y f l a b)) (lcs (ρ 2)) (fun u y => R (ii (up + (if itr (bst u.2) (ρ 2 - 1).toNat 1 0 = p then 1 else 0))) (ii (code + 1)) (hp x F P y f l a b)) (fun u k y => ((0 ≤ u.1 ∧ u.1 ≤ 100000) ∧ ∀ t, 0 ≤ u.2 t ∧ u.2 t ≤ k) ∧ (∀ j, j ≠ 19 → y j = A j) ∧ (∀ t, 0 ≤ t → t < 5 → y 19 t = u.2 t)) (lo := 0) (hi := n) ?_ ?_ n.toNat fk_fuel (code, fun _ => 0) 0 A (by omega) (by omega) (by unfold fk_fuel; omega) ⟨⟨⟨hc, hc2⟩, fun t => ⟨Int.le_refl 0, Int.le_refl 0⟩⟩, fun _ _ => rfl, h38⟩
  · obtain ⟨a', e1, e2⟩ := hL
    exact ⟨a', e1, e2.2.1⟩
  · intro N u y hy
    have e5 := k_mostLooked x F P y f l a b hR hA u.2 hy.2.2 (fun t => by have := hy.1.2 t; omega)
    have hb : 0 ≤ itr (bst u.2) (ρ 2 - 1).toNat 1 0 ∧ itr (bst u.2) (ρ 2 - 1).toNat 1 0 < 5 := by
      refine itr_iv (s := bst u.2) (fun b => 0 ≤ b ∧ b < 5) (lo := 1) (hi := ρ 2) (fun b k h1 h2 h3 => ?_) (ρ 2 - 1).toNat 1 0 (by omega) (by omega) ⟨by omega, by omega⟩
      unfold bst
      split <;> omega
    try dsimp only
    rw [f_X1_verdictOdds_L78]
    simp (disch := first | omega | assumption) only [Option.bind_some, bn2_some, ii_lit, ii_neg, ii_add, ii_sub, ii_mul, ii_le, ii_lt, ii_eq, ii_ite, ii_or, ii_and, ii_bit, ii_rem, ii_div, b0_, b1_, b2_, b3_, true_and, and_true, u1_eq, u1_ne, u2_eq, u2_nk, u2_ni, uP_eq, uP_ne, gk1, gk2, gk3, gk4, gk10, gk11, gk12, gk13, gk14, gk15, gk17, gkr0, gkr7, gkr8, gkr9, gkr16, gkr18, gkr19, gkr5, gkr6, ok0, ok1, ok2, ok3, gl2_0, gl2_1, gl2_2, gl3_0, gl3_1, gl3_2, gm0, gm2, gm3, gm4, gm5, gm6, gm7, gm8, gm9, gm10, gm11, gm13, gm14, gm22, gm23, gm26, gm27, gm28, gm29, gm31, gm32, gm33, gm36, gm37, gm39, gm40, gm41, gm1, gm12, gm15, gm16, gm17, gm18, gm19, gm20, gm21, gm24, gm25, gm30, gm34, gm35, gm38, rk0, sk0, rk9, sk9, rk16, sk16, rk18, sk18, rk19, sk19, rm1, sm1, rm12, sm12, rm15, sm15, rm16, sm16, rm17, sm17, rm18, sm18, rm19, sm19, rm20, sm20, rm21, sm21, rm24, sm24, rm25, sm25, rm30, sm30, rm34, sm34, rm35, sm35, rm38, sm38, pk1, pk2, pk3, pk4, pk10, pk11, pk12, pk13, pk14, pk15, pk17, pkr5, pkr6, pm0, pm2, pm3, pm4, pm5, pm6, pm7, pm8, pm9, pm10, pm11, pm13, pz13_0, pz13_1, pm14, pz14_0, pz14_1, pm22, pm23, pm26, pm27, pm28, pm29, pm31, pm32, pm33, pm36, pm37, pm39, pm40, pm41, pl2_0, pl2_1, pl2_2, pl3_0, pl3_1, pl3_2, e5]
    rw [if_pos (by omega)]
  · intro N u k y k1 k2 hy
    obtain ⟨⟨⟨hu1, hu2⟩, hu3⟩, hy1, hy2⟩ := hy
    have hm0 : 0 ≤ u.1 % ρ 2 := Int.emod_nonneg _ (by omega)
    have hm1 : u.1 % ρ 2 < ρ 2 := Int.emod_lt_of_pos _ (by omega)
    have hd0 : 0 ≤ u.1 / ρ 2 := Int.ediv_nonneg hu1 (by omega)
    have hd1 : u.1 / ρ 2 ≤ u.1 := Int.ediv_le_self _ hu1
    refine ⟨u2 y 19 (u.1 % ρ 2) (y 19 (u.1 % ρ 2) + 1), ⟨⟨⟨hd0, Int.le_trans hd1 hu2⟩, fun t => ?_⟩, fun j hj => (u2_nk _ _ _ hj).trans (hy1 j hj), fun t t1 t2 => ?_⟩, ?_⟩
    · have := hu3 t
      show 0 ≤ (if t = u.1 % ρ 2 then u.2 t + 1 else u.2 t) ∧ (if t = u.1 % ρ 2 then u.2 t + 1 else u.2 t) ≤ k + 1
      split <;> omega
    · show u2 y 19 (u.1 % ρ 2) (y 19 (u.1 % ρ 2) + 1) 19 t = (if t = u.1 % ρ 2 then u.2 t + 1 else u.2 t)
      by_cases ht : t = u.1 % ρ 2
      · rw [if_pos ht, ht, u2_eq, hy2 _ hm0 (by omega)]
      · rw [if_neg ht, u2_ni _ _ _ ht, hy2 t t1 t2]
    · try dsimp only
      rw [f_X1_verdictOdds_L78]
      simp (disch := first | omega | assumption) only [Option.bind_some, bn2_some, ii_lit, ii_neg, ii_add, ii_sub, ii_mul, ii_le, ii_lt, ii_eq, ii_ite, ii_or, ii_and, ii_bit, ii_rem, ii_div, b0_, b1_, b2_, b3_, true_and, and_true, u1_eq, u1_ne, u2_eq, u2_nk, u2_ni, uP_eq, uP_ne, gk1, gk2, gk3, gk4, gk10, gk11, gk12, gk13, gk14, gk15, gk17, gkr0, gkr7, gkr8, gkr9, gkr16, gkr18, gkr19, gkr5, gkr6, ok0, ok1, ok2, ok3, gl2_0, gl2_1, gl2_2, gl3_0, gl3_1, gl3_2, gm0, gm2, gm3, gm4, gm5, gm6, gm7, gm8, gm9, gm10, gm11, gm13, gm14, gm22, gm23, gm26, gm27, gm28, gm29, gm31, gm32, gm33, gm36, gm37, gm39, gm40, gm41, gm1, gm12, gm15, gm16, gm17, gm18, gm19, gm20, gm21, gm24, gm25, gm30, gm34, gm35, gm38, rk0, sk0, rk9, sk9, rk16, sk16, rk18, sk18, rk19, sk19, rm1, sm1, rm12, sm12, rm15, sm15, rm16, sm16, rm17, sm17, rm18, sm18, rm19, sm19, rm20, sm20, rm21, sm21, rm24, sm24, rm25, sm25, rm30, sm30, rm34, sm34, rm35, sm35, rm38, sm38, pk1, pk2, pk3, pk4, pk10, pk11, pk12, pk13, pk14, pk15, pk17, pkr5, pkr6, pm0, pm2, pm3, pm4, pm5, pm6, pm7, pm8, pm9, pm10, pm11, pm13, pz13_0, pz13_1, pm14, pz14_0, pz14_1, pm22, pm23, pm26, pm27, pm28, pm29, pm31, pm32, pm33, pm36, pm37, pm39, pm40, pm41, pl2_0, pl2_1, pl2_2, pl3_0, pl3_1, pl3_2, hA.2.2.1]
      rw [if_neg (by omega), if_neg (by omega), if_neg (by omega)]
      rfl
theorem k_vo60 (x : Nat) (F : Nat → Int) (P : Nat → Option Nat) (A : Nat → Int → Int) (f l : Nat → Int) (a : Nat → Int → Int) (b : fk_M) {q lw hk : Int → Nat} {pa sg un l5 l6 s1 s2 s3 : Nat} {ρ τ σ : Int → Int} (hR : Rg ρ τ σ) (hA : Api x P b ρ τ σ q lw hk pa sg un l5 l6 s1 s2 s3) {p n : Int} (c : Int32) (hp0 : rg p) (hn : 0 ≤ n) (hn2 : n ≤ 4) : ∃ A', f_X1_verdictOdds_L60 (some x) (ii p) (ii n) c (ii ((ρ 2) ^ n.toNat)) fk_fuel (ii 0) (ii 0) (hp x F P A f l a b) = some (frc (vo ρ p n) ((ρ 2) ^ n.toNat) c, hp x (Fo F 0) P A' f l a b) ∧ (∀ j, j ≠ 19 → A' j = A j) := by
  have hw := hR.wd
  have hpn := pn_rg (r := ρ 2) (n := n) (by omega) (by omega) hn hn2
  have hvr := vo_rg hR p hn hn2
  have hL := loop_ex (fun N u k (y : Nat → Int → Int) => f_X1_verdictOdds_L60 (some x) (ii p) (ii n) c (ii ((ρ 2) ^ n.toNat)) N (ii u) (ii k) (hp x F P y f l a b)) (voc ρ p n) (fun u y => bn2 (f_X1_fraction (some x) (Int32.toInt64 (ii u)) (Int32.toInt64 (ii ((ρ 2) ^ n.toNat))) c (hp x F P y f l a b)) fun z2 m3 => some (z2, m3)) (fun u k y => (∀ j, j ≠ 19 → y j = A j)) (lo := 0) (hi := (ρ 2) ^ n.toNat) ?_ ?_ ((ρ 2) ^ n.toNat).toNat fk_fuel 0 0 A (by omega) (by omega) (by unfold fk_fuel; omega) (fun _ _ => rfl)
  · obtain ⟨a', e1, e2⟩ := hL
    refine ⟨a', e1.trans ?_, e2⟩
    have e3 : itr (voc ρ p n) ((ρ 2) ^ n.toNat).toNat 0 0 = vo ρ p n := rfl
    rw [e3, jj_of (by omega), jj_of (by omega), k_fraction x F P a' f l a b c hvr.1 (by omega) (by omega) (by omega), bn2_some]
  · intro N u y hy
    try dsimp only
    rw [f_X1_verdictOdds_L60, if_pos (Int32.le_refl _), ok0, Option.bind_some]
  · intro N u k y k1 k2 hy
    obtain ⟨A1, o1, o2, o3⟩ := k_looksAway x F P y f l a b
    obtain ⟨a', g1, g2⟩ := k_vo78 x F P A1 f l a b hR hA (p := p) (n := n) (code := k) (up := u) (al := (ρ 2) ^ n.toNat) c hp0 hn hn2 k1 (by omega) o3 (f_X1_verdictOdds_L60 (some x) (ii p) (ii n) c (ii ((ρ 2) ^ n.toNat)) N)
    refine ⟨a', fun j hj => (g2 j hj).trans ((o2 j hj).trans (hy j hj)), ?_⟩
    try dsimp only
    rw [f_X1_verdictOdds_L60, if_neg (show ¬ ii ((ρ 2) ^ n.toNat) ≤ ii k by rw [ii_le (by omega) (by omega)]; omega), ok0, Option.bind_some, o1, Option.bind_some]
    exact g1
theorem k_verdictOdds (x : Nat) (F : Nat → Int) (P : Nat → Option Nat) (A : Nat → Int → Int) (f l : Nat → Int) (a : Nat → Int → Int) (b : fk_M) {h : Int} {ρ τ σ : Int → Int} (hK : Kq x P b h ρ τ σ) {p n : Int} (c : Int32) (hp0 : rg p) (hn : rg n) : KL x F P A f l a b (s_verdictOdds h ρ p n c) (wy (h = 1 ∧ 0 ≤ p ∧ p < ρ 2) (0 ≤ n ∧ n ≤ 4)) (f_X1_verdictOdds (some x) (ii p) (ii n) c (hp x F P A f l a b)) := by
  unfold f_X1_verdictOdds s_verdictOdds
  have e1 : f_X1_why (some x) (ii (if (h = 1 ∧ 0 ≤ p ∧ p < ρ 2) then 1 else 0)) (ii n) 0 4 (hp x F P A f l a b) = some (ii (wy ((if (h = 1 ∧ 0 ≤ p ∧ p < ρ 2) then (1 : Int) else 0) = 1) (0 ≤ n ∧ n ≤ 4))) := k_why _ _ (lo := 0) (hi := 4) (by split <;> omega) hn (by omega) (by omega)
  simp only [b1_] at e1
  have hy := wy_rg (h = 1 ∧ 0 ≤ p ∧ p < ρ 2) (0 ≤ n ∧ n ≤ 4)
  rw [ok0, Option.bind_some, k_isPair x F P A f l a b hp0 hK, Option.bind_some, Option.bind_some, e1, Option.bind_some]
  by_cases h0 : wy (h = 1 ∧ 0 ≤ p ∧ p < ρ 2) (0 ≤ n ∧ n ≤ 4) = 0
  · obtain ⟨⟨rfl, h2, h3⟩, h4, h5⟩ := wy_0.mp h0
    obtain ⟨hh, -⟩ | ⟨-, hR, q, lw, hk, pa, sg, un, l5, l6, s1, s2, s3, hA⟩ := hK
    · omega
    rw [h0, if_pos (show ii 0 ≤ 0 by decide), if_pos rfl]
    obtain ⟨A', g1, g2⟩ := k_vo60 x F P A f l a b hR hA (p := p) (n := n) c hp0 h4 h5
    refine KL.of A' (g2 0 (by omega)) ?_
    have hL := loop_i0 (fun N u k => f_X1_verdictOdds_L36 (some x) (ii p) (ii n) c (ii 0) (hp x F P A f l a b) N (ii u) (ii k)) (fun u (_ : Int) => u * ρ 2) (fun u => f_X1_verdictOdds_L60 (some x) (ii p) (ii n) c (ii u) fk_fuel (ii 0) (ii 0) (hp x F P A f l a b)) (lo := 0) (hi := n) ?_ ?_ n.toNat fk_fuel 1 0 (by omega) (by omega) (by unfold fk_fuel; omega)
    · refine Eq.trans hL ?_
      rw [pw_itr, Int.one_mul]
      exact g1
    · intros
      try dsimp only
      rw [f_X1_verdictOdds_L36]
      simp (disch := first | omega | assumption) only [Option.bind_some, bn2_some, ii_lit, ii_neg, ii_add, ii_sub, ii_mul, ii_le, ii_lt, ii_eq, ii_ite, ii_or, ii_and, ii_bit, ii_rem, ii_div, b0_, b1_, b2_, b3_, true_and, and_true, u1_eq, u1_ne, u2_eq, u2_nk, u2_ni, uP_eq, uP_ne, gk1, gk2, gk3, gk4, gk10, gk11, gk12, gk13, gk14, gk15, gk17, gkr0, gkr7, gkr8, gkr9, gkr16, gkr18, gkr19, gkr5, gkr6, ok0, ok1, ok2, ok3, gl2_0, gl2_1, gl2_2, gl3_0, gl3_1, gl3_2, gm0, gm2, gm3, gm4, gm5, gm6, gm7, gm8, gm9, gm10, gm11, gm13, gm14, gm22, gm23, gm26, gm27, gm28, gm29, gm31, gm32, gm33, gm36, gm37, gm39, gm40, gm41, gm1, gm12, gm15, gm16, gm17, gm18, gm19, gm20, gm21, gm24, gm25, gm30, gm34, gm35, gm38, rk0, sk0, rk9, sk9, rk16, sk16, rk18, sk18, rk19, sk19, rm1, sm1, rm12, sm12, rm15, sm15, rm16, sm16, rm17, sm17, rm18, sm18, rm19, sm19, rm20, sm20, rm21, sm21, rm24, sm24, rm25, sm25, rm30, sm30, rm34, sm34, rm35, sm35, rm38, sm38, pk1, pk2, pk3, pk4, pk10, pk11, pk12, pk13, pk14, pk15, pk17, pkr5, pkr6, pm0, pm2, pm3, pm4, pm5, pm6, pm7, pm8, pm9, pm10, pm11, pm13, pz13_0, pz13_1, pm14, pz14_0, pz14_1, pm22, pm23, pm26, pm27, pm28, pm29, pm31, pm32, pm33, pm36, pm37, pm39, pm40, pm41, pl2_0, pl2_1, pl2_2, pl3_0, pl3_1, pl3_2]
      rw [if_pos (by omega)]
    · intro N u k k1 k2
      try dsimp only
      rw [f_X1_verdictOdds_L36]
      simp (disch := first | omega | assumption) only [Option.bind_some, bn2_some, ii_lit, ii_neg, ii_add, ii_sub, ii_mul, ii_le, ii_lt, ii_eq, ii_ite, ii_or, ii_and, ii_bit, ii_rem, ii_div, b0_, b1_, b2_, b3_, true_and, and_true, u1_eq, u1_ne, u2_eq, u2_nk, u2_ni, uP_eq, uP_ne, gk1, gk2, gk3, gk4, gk10, gk11, gk12, gk13, gk14, gk15, gk17, gkr0, gkr7, gkr8, gkr9, gkr16, gkr18, gkr19, gkr5, gkr6, ok0, ok1, ok2, ok3, gl2_0, gl2_1, gl2_2, gl3_0, gl3_1, gl3_2, gm0, gm2, gm3, gm4, gm5, gm6, gm7, gm8, gm9, gm10, gm11, gm13, gm14, gm22, gm23, gm26, gm27, gm28, gm29, gm31, gm32, gm33, gm36, gm37, gm39, gm40, gm41, gm1, gm12, gm15, gm16, gm17, gm18, gm19, gm20, gm21, gm24, gm25, gm30, gm34, gm35, gm38, rk0, sk0, rk9, sk9, rk16, sk16, rk18, sk18, rk19, sk19, rm1, sm1, rm12, sm12, rm15, sm15, rm16, sm16, rm17, sm17, rm18, sm18, rm19, sm19, rm20, sm20, rm21, sm21, rm24, sm24, rm25, sm25, rm30, sm30, rm34, sm34, rm35, sm35, rm38, sm38, pk1, pk2, pk3, pk4, pk10, pk11, pk12, pk13, pk14, pk15, pk17, pkr5, pkr6, pm0, pm2, pm3, pm4, pm5, pm6, pm7, pm8, pm9, pm10, pm11, pm13, pz13_0, pz13_1, pm14, pz14_0, pz14_1, pm22, pm23, pm26, pm27, pm28, pm29, pm31, pm32, pm33, pm36, pm37, pm39, pm40, pm41, pl2_0, pl2_1, pl2_2, pl3_0, pl3_1, pl3_2, hA.2.2.1]
      rw [if_neg (by omega)]
  · rw [if_neg h0, if_neg (show ¬ ii (wy (h = 1 ∧ 0 ≤ p ∧ p < ρ 2) (0 ≤ n ∧ n ≤ 4)) ≤ 0 by rw [show (0 : Int32) = ii 0 from rfl, ii_le (by omega) (by omega)]; omega), Option.bind_some, k_refused, bn2_some]
    exact KL.of A rfl rfl
