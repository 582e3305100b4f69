/-! PLAIN 16: the component: the gallery -/
set_option maxRecDepth 100000
theorem k_looksAway (x : Nat) (F : Nat → Int) (P : Nat → Option Nat) (A : Nat → Int → Int) (f l : Nat → Int) (a : Nat → Int → Int) (b : fk_M) : ∃ A', f_X1_looksAway (some x) (hp x F P A f l a b) = some (hp x F P A' f l a b) ∧ (∀ j, j ≠ 19 → A' j = A j) ∧ (∀ t, 0 ≤ t → t < 5 → A' 19 t = 0) := by
  unfold f_X1_looksAway
  have hL := loop_ex (fun N (_ : Unit) k (y : Nat → Int → Int) => f_X1_looksAway_L2 (some x) N (ii k) (hp x F P y f l a b)) (fun u k => u) (fun u y => some (hp x F P y f l a b)) (fun u k y => (∀ j, j ≠ 19 → y j = A j) ∧ (∀ t, 0 ≤ t → t < k → y 19 t = 0)) (lo := 0) (hi := 5) ?_ ?_ 5 fk_fuel () 0 A (by omega) (by omega) (by unfold fk_fuel; omega) ⟨fun _ _ => rfl, fun t h1 h2 => by omega⟩
  · obtain ⟨a1, g1, g2, g3⟩ := hL
    exact ⟨a1, g1, g2, g3⟩
  · intro N u y hy
    try dsimp only
    rw [f_X1_looksAway_L2]
    simp (disch := first | omega | assumption) only [Option.bind_some, bn2_some, ii_lit, ii_neg, ii_add, ii_sub, ii_mul, ii_le, ii_lt, ii_eq, ii_ite, ii_or, ii_and, ii_bit, ii_rem, ii_div, b0_, b1_, b2_, b3_, true_and, and_true, u1_eq, u1_ne, u2_eq, u2_nk, u2_ni, uP_eq, uP_ne, gk1, gk2, gk3, gk4, gk10, gk11, gk12, gk13, gk14, gk15, gk17, gkr0, gkr7, gkr8, gkr9, gkr16, gkr18, gkr19, gkr5, gkr6, ok0, ok1, ok2, ok3, gl2_0, gl2_1, gl2_2, gl3_0, gl3_1, gl3_2, gm0, gm2, gm3, gm4, gm5, gm6, gm7, gm8, gm9, gm10, gm11, gm13, gm14, gm22, gm23, gm26, gm27, gm28, gm29, gm31, gm32, gm33, gm36, gm37, gm39, gm40, gm41, gm1, gm12, gm15, gm16, gm17, gm18, gm19, gm20, gm21, gm24, gm25, gm30, gm34, gm35, gm38, rk0, sk0, rk9, sk9, rk16, sk16, rk18, sk18, rk19, sk19, rm1, sm1, rm12, sm12, rm15, sm15, rm16, sm16, rm17, sm17, rm18, sm18, rm19, sm19, rm20, sm20, rm21, sm21, rm24, sm24, rm25, sm25, rm30, sm30, rm34, sm34, rm35, sm35, rm38, sm38, pk1, pk2, pk3, pk4, pk10, pk11, pk12, pk13, pk14, pk15, pk17, pkr5, pkr6, pm0, pm2, pm3, pm4, pm5, pm6, pm7, pm8, pm9, pm10, pm11, pm13, pz13_0, pz13_1, pm14, pz14_0, pz14_1, pm22, pm23, pm26, pm27, pm28, pm29, pm31, pm32, pm33, pm36, pm37, pm39, pm40, pm41, pl2_0, pl2_1, pl2_2, pl3_0, pl3_1, pl3_2]
    rw [if_pos (by omega)]
  · intro N u k y k1 k2 hy
    refine ⟨u2 y 19 k 0, ⟨fun j hj => (u2_nk _ _ _ hj).trans (hy.1 j hj), fun t h1 h2 => ?_⟩, ?_⟩
    · by_cases ht : t = k
      · rw [ht, u2_eq]
      · rw [u2_ni _ _ _ ht]
        exact hy.2 t h1 (by omega)
    · skip
      try dsimp only
      rw [f_X1_looksAway_L2]
      simp (disch := first | omega | assumption) only [Option.bind_some, bn2_some, ii_lit, ii_neg, ii_add, ii_sub, ii_mul, ii_le, ii_lt, ii_eq, ii_ite, ii_or, ii_and, ii_bit, ii_rem, ii_div, b0_, b1_, b2_, b3_, true_and, and_true, u1_eq, u1_ne, u2_eq, u2_nk, u2_ni, uP_eq, uP_ne, gk1, gk2, gk3, gk4, gk10, gk11, gk12, gk13, gk14, gk15, gk17, gkr0, gkr7, gkr8, gkr9, gkr16, gkr18, gkr19, gkr5, gkr6, ok0, ok1, ok2, ok3, gl2_0, gl2_1, gl2_2, gl3_0, gl3_1, gl3_2, gm0, gm2, gm3, gm4, gm5, gm6, gm7, gm8, gm9, gm10, gm11, gm13, gm14, gm22, gm23, gm26, gm27, gm28, gm29, gm31, gm32, gm33, gm36, gm37, gm39, gm40, gm41, gm1, gm12, gm15, gm16, gm17, gm18, gm19, gm20, gm21, gm24, gm25, gm30, gm34, gm35, gm38, rk0, sk0, rk9, sk9, rk16, sk16, rk18, sk18, rk19, sk19, rm1, sm1, rm12, sm12, rm15, sm15, rm16, sm16, rm17, sm17, rm18, sm18, rm19, sm19, rm20, sm20, rm21, sm21, rm24, sm24, rm25, sm25, rm30, sm30, rm34, sm34, rm35, sm35, rm38, sm38, pk1, pk2, pk3, pk4, pk10, pk11, pk12, pk13, pk14, pk15, pk17, pkr5, pkr6, pm0, pm2, pm3, pm4, pm5, pm6, pm7, pm8, pm9, pm10, pm11, pm13, pz13_0, pz13_1, pm14, pz14_0, pz14_1, pm22, pm23, pm26, pm27, pm28, pm29, pm31, pm32, pm33, pm36, pm37, pm39, pm40, pm41, pl2_0, pl2_1, pl2_2, pl3_0, pl3_1, pl3_2]
      rw [if_neg (by omega)]
theorem k_looksBy (x : Nat) (F : Nat → Int) (P : Nat → Option Nat) (A : Nat → Int → Int) (f l : Nat → Int) (a : Nat → Int → Int) (b : fk_M) {q lw hk : Int → Nat} {pa sg un l5 l6 s1 s2 s3 : Nat} {ρ τ σ : Int → Int} (hR : Rg ρ τ σ) (hA : Api x P b ρ τ σ q lw hk pa sg un l5 l6 s1 s2 s3) {seed n : Int} (hs : 0 ≤ seed) (hs2 : seed ≤ 65536) (hn : 0 ≤ n) (hn2 : n ≤ 200) : ∃ A', f_X1_looksBy (some x) (ii seed) (ii n) (hp x F P A f l a b) = some (hp x F P A' f l a b) ∧ (∀ j, j ≠ 19 → A' j = A j) ∧ (∀ t, 0 ≤ t → t < 5 → A' 19 t = (lkd (ρ 2) seed n).2 t) := by
  have hw := hR.wd
  obtain ⟨A1, g1, g2, g3⟩ := k_looksAway x F P A f l a b
  unfold f_X1_looksBy
  rw [ok0, Option.bind_some, g1, Option.bind_some]
  have hL := loop_ex (fun N (u : Int × (Int → Int)) k (y : Nat → Int → Int) => f_X1_looksBy_L9 (some x) (ii n) N (ii u.1) (ii k) (hp x F P y f l a b)) (lkS (ρ 2)) (fun u y => some (hp x F P y f l a b)) (fun u k y => (0 ≤ u.1 ∧ u.1 ≤ 65536) ∧ (∀ j, j ≠ 19 → y j = A j) ∧ (∀ t, 0 ≤ t → t < 5 → y 19 t = u.2 t)) (lo := 0) (hi := n) ?_ ?_ n.toNat fk_fuel (seed, fun _ => 0) 0 A1 (by omega) (by omega) (by unfold fk_fuel; omega) ⟨⟨hs, hs2⟩, g2, g3⟩
  · obtain ⟨a', e1, e2⟩ := hL
    exact ⟨a', e1, e2.2.1, e2.2.2⟩
  · intro N u y hy
    try dsimp only
    rw [f_X1_looksBy_L9]
    simp (disch := first | omega | assumption) only [Option.bind_some, bn2_some, ii_lit, ii_neg, ii_add, ii_sub, ii_mul, ii_le, ii_lt, ii_eq, ii_ite, ii_or, ii_and, ii_bit, ii_rem, ii_div, b0_, b1_, b2_, b3_, true_and, and_true, u1_eq, u1_ne, u2_eq, u2_nk, u2_ni, uP_eq, uP_ne, gk1, gk2, gk3, gk4, gk10, gk11, gk12, gk13, gk14, gk15, gk17, gkr0, gkr7, gkr8, gkr9, gkr16, gkr18, gkr19, gkr5, gkr6, ok0, ok1, ok2, ok3, gl2_0, gl2_1, gl2_2, gl3_0, gl3_1, gl3_2, gm0, gm2, gm3, gm4, gm5, gm6, gm7, gm8, gm9, gm10, gm11, gm13, gm14, gm22, gm23, gm26, gm27, gm28, gm29, gm31, gm32, gm33, gm36, gm37, gm39, gm40, gm41, gm1, gm12, gm15, gm16, gm17, gm18, gm19, gm20, gm21, gm24, gm25, gm30, gm34, gm35, gm38, rk0, sk0, rk9, sk9, rk16, sk16, rk18, sk18, rk19, sk19, rm1, sm1, rm12, sm12, rm15, sm15, rm16, sm16, rm17, sm17, rm18, sm18, rm19, sm19, rm20, sm20, rm21, sm21, rm24, sm24, rm25, sm25, rm30, sm30, rm34, sm34, rm35, sm35, rm38, sm38, pk1, pk2, pk3, pk4, pk10, pk11, pk12, pk13, pk14, pk15, pk17, pkr5, pkr6, pm0, pm2, pm3, pm4, pm5, pm6, pm7, pm8, pm9, pm10, pm11, pm13, pz13_0, pz13_1, pm14, pz14_0, pz14_1, pm22, pm23, pm26, pm27, pm28, pm29, pm31, pm32, pm33, pm36, pm37, pm39, pm40, pm41, pl2_0, pl2_1, pl2_2, pl3_0, pl3_1, pl3_2]
    rw [if_pos (by omega)]
  · intro N u k y k1 k2 hy
    obtain ⟨⟨hu1, hu2⟩, hy1, hy2⟩ := hy
    have hd := dr_rg u.1
    have hm0 : 0 ≤ dr u.1 % ρ 2 := Int.emod_nonneg _ (by omega)
    have hm1 : dr u.1 % ρ 2 < ρ 2 := Int.emod_lt_of_pos _ (by omega)
    refine ⟨u2 y 19 (dr u.1 % ρ 2) (y 19 (dr u.1 % ρ 2) + 1), ⟨hd, fun j hj => (u2_nk _ _ _ hj).trans (hy1 j hj), fun t t1 t2 => ?_⟩, ?_⟩
    · show u2 y 19 (dr u.1 % ρ 2) (y 19 (dr u.1 % ρ 2) + 1) 19 t = (if t = dr u.1 % ρ 2 then u.2 t + 1 else u.2 t)
      by_cases ht : t = dr u.1 % ρ 2
      · rw [if_pos ht, ht, u2_eq, hy2 _ hm0 (by omega)]
      · rw [if_neg ht, u2_ni _ _ _ ht, hy2 t t1 t2]
    · try dsimp only
      rw [f_X1_looksBy_L9, k_drawOf _ hu1 hu2]
      simp (disch := first | omega | assumption) only [Option.bind_some, bn2_some, ii_lit, ii_neg, ii_add, ii_sub, ii_mul, ii_le, ii_lt, ii_eq, ii_ite, ii_or, ii_and, ii_bit, ii_rem, ii_div, b0_, b1_, b2_, b3_, true_and, and_true, u1_eq, u1_ne, u2_eq, u2_nk, u2_ni, uP_eq, uP_ne, gk1, gk2, gk3, gk4, gk10, gk11, gk12, gk13, gk14, gk15, gk17, gkr0, gkr7, gkr8, gkr9, gkr16, gkr18, gkr19, gkr5, gkr6, ok0, ok1, ok2, ok3, gl2_0, gl2_1, gl2_2, gl3_0, gl3_1, gl3_2, gm0, gm2, gm3, gm4, gm5, gm6, gm7, gm8, gm9, gm10, gm11, gm13, gm14, gm22, gm23, gm26, gm27, gm28, gm29, gm31, gm32, gm33, gm36, gm37, gm39, gm40, gm41, gm1, gm12, gm15, gm16, gm17, gm18, gm19, gm20, gm21, gm24, gm25, gm30, gm34, gm35, gm38, rk0, sk0, rk9, sk9, rk16, sk16, rk18, sk18, rk19, sk19, rm1, sm1, rm12, sm12, rm15, sm15, rm16, sm16, rm17, sm17, rm18, sm18, rm19, sm19, rm20, sm20, rm21, sm21, rm24, sm24, rm25, sm25, rm30, sm30, rm34, sm34, rm35, sm35, rm38, sm38, pk1, pk2, pk3, pk4, pk10, pk11, pk12, pk13, pk14, pk15, pk17, pkr5, pkr6, pm0, pm2, pm3, pm4, pm5, pm6, pm7, pm8, pm9, pm10, pm11, pm13, pz13_0, pz13_1, pm14, pz14_0, pz14_1, pm22, pm23, pm26, pm27, pm28, pm29, pm31, pm32, pm33, pm36, pm37, pm39, pm40, pm41, pl2_0, pl2_1, pl2_2, pl3_0, pl3_1, pl3_2, hA.2.2.1]
      rw [if_neg (by omega), if_neg (by omega)]
      rfl
theorem k_mostLooked (x : Nat) (F : Nat → Int) (P : Nat → Option Nat) (A : Nat → Int → Int) (f l : Nat → Int) (a : Nat → Int → Int) (b : fk_M) {q lw hk : Int → Nat} {pa sg un l5 l6 s1 s2 s3 : Nat} {ρ τ σ : Int → Int} (hR : Rg ρ τ σ) (hA : Api x P b ρ τ σ q lw hk pa sg un l5 l6 s1 s2 s3) (L : Int → Int) (hL0 : ∀ t, 0 ≤ t → t < 5 → A 19 t = L t) (hLr : ∀ t, 0 ≤ L t ∧ L t ≤ 1000000) : f_X1_mostLooked (some x) (hp x F P A f l a b) = some (ii (itr (bst L) (ρ 2 - 1).toNat 1 0)) := by
  have hw := hR.wd
  unfold f_X1_mostLooked
  refine (loop_it (fun N u k => f_X1_mostLooked_L4 (some x) (hp x F P A f l a b) N (ii u) (ii k)) (bst L) (fun u => some (ii u)) (fun u k => 0 ≤ u ∧ u < k) (lo := 1) (hi := ρ 2) ?_ ?_ (ρ 2 - 1).toNat fk_fuel 0 1 (by omega) (by omega) (by unfold fk_fuel; omega) (by omega)).1
  · intros
    try dsimp only
    rw [f_X1_mostLooked_L4]
    simp (disch := first | omega | assumption) only [Option.bind_some, bn2_some, ii_lit, ii_neg, ii_add, ii_sub, ii_mul, ii_le, ii_lt, ii_eq, ii_ite, ii_or, ii_and, ii_bit, ii_rem, ii_div, b0_, b1_, b2_, b3_, true_and, and_true, u1_eq, u1_ne, u2_eq, u2_nk, u2_ni, uP_eq, uP_ne, gk1, gk2, gk3, gk4, gk10, gk11, gk12, gk13, gk14, gk15, gk17, gkr0, gkr7, gkr8, gkr9, gkr16, gkr18, gkr19, gkr5, gkr6, ok0, ok1, ok2, ok3, gl2_0, gl2_1, gl2_2, gl3_0, gl3_1, gl3_2, gm0, gm2, gm3, gm4, gm5, gm6, gm7, gm8, gm9, gm10, gm11, gm13, gm14, gm22, gm23, gm26, gm27, gm28, gm29, gm31, gm32, gm33, gm36, gm37, gm39, gm40, gm41, gm1, gm12, gm15, gm16, gm17, gm18, gm19, gm20, gm21, gm24, gm25, gm30, gm34, gm35, gm38, rk0, sk0, rk9, sk9, rk16, sk16, rk18, sk18, rk19, sk19, rm1, sm1, rm12, sm12, rm15, sm15, rm16, sm16, rm17, sm17, rm18, sm18, rm19, sm19, rm20, sm20, rm21, sm21, rm24, sm24, rm25, sm25, rm30, sm30, rm34, sm34, rm35, sm35, rm38, sm38, pk1, pk2, pk3, pk4, pk10, pk11, pk12, pk13, pk14, pk15, pk17, pkr5, pkr6, pm0, pm2, pm3, pm4, pm5, pm6, pm7, pm8, pm9, pm10, pm11, pm13, pz13_0, pz13_1, pm14, pz14_0, pz14_1, pm22, pm23, pm26, pm27, pm28, pm29, pm31, pm32, pm33, pm36, pm37, pm39, pm40, pm41, pl2_0, pl2_1, pl2_2, pl3_0, pl3_1, pl3_2, hA.2.2.1]
    rw [if_pos (by omega)]
  · intro N u k k1 k2 hu
    have e1 := hL0 k (by omega) (by omega)
    have e2 := hL0 u (by omega) (by omega)
    have r1 := hLr k
    have r2 := hLr u
    refine ⟨by unfold bst; split <;> omega, ?_⟩
    try dsimp only
    rw [f_X1_mostLooked_L4]
    simp (disch := first | omega | assumption) only [Option.bind_some, bn2_some, ii_lit, ii_neg, ii_add, ii_sub, ii_mul, ii_le, ii_lt, ii_eq, ii_ite, ii_or, ii_and, ii_bit, ii_rem, ii_div, b0_, b1_, b2_, b3_, true_and, and_true, u1_eq, u1_ne, u2_eq, u2_nk, u2_ni, uP_eq, uP_ne, gk1, gk2, gk3, gk4, gk10, gk11, gk12, gk13, gk14, gk15, gk17, gkr0, gkr7, gkr8, gkr9, gkr16, gkr18, gkr19, gkr5, gkr6, ok0, ok1, ok2, ok3, gl2_0, gl2_1, gl2_2, gl3_0, gl3_1, gl3_2, gm0, gm2, gm3, gm4, gm5, gm6, gm7, gm8, gm9, gm10, gm11, gm13, gm14, gm22, gm23, gm26, gm27, gm28, gm29, gm31, gm32, gm33, gm36, gm37, gm39, gm40, gm41, gm1, gm12, gm15, gm16, gm17, gm18, gm19, gm20, gm21, gm24, gm25, gm30, gm34, gm35, gm38, rk0, sk0, rk9, sk9, rk16, sk16, rk18, sk18, rk19, sk19, rm1, sm1, rm12, sm12, rm15, sm15, rm16, sm16, rm17, sm17, rm18, sm18, rm19, sm19, rm20, sm20, rm21, sm21, rm24, sm24, rm25, sm25, rm30, sm30, rm34, sm34, rm35, sm35, rm38, sm38, pk1, pk2, pk3, pk4, pk10, pk11, pk12, pk13, pk14, pk15, pk17, pkr5, pkr6, pm0, pm2, pm3, pm4, pm5, pm6, pm7, pm8, pm9, pm10, pm11, pm13, pz13_0, pz13_1, pm14, pz14_0, pz14_1, pm22, pm23, pm26, pm27, pm28, pm29, pm31, pm32, pm33, pm36, pm37, pm39, pm40, pm41, pl2_0, pl2_1, pl2_2, pl3_0, pl3_1, pl3_2, hA.2.2.1, e1, e2]
    rw [if_neg (by omega)]
    rfl
theorem k_whyLooks (x : Nat) (F : Nat → Int) (P : Nat → Option Nat) (A : Nat → Int → Int) (f l : Nat → Int) (a : Nat → Int → Int) (b : fk_M) {c seed n : Int} (hc : c = 0 ∨ c = 1) (hs : rg seed) (hn : rg n) : f_X1_whyLooks (some x) (ii c) (ii seed) (ii n) (hp x F P A f l a b) = some (ii (wl (c = 1) seed n)) := by
  unfold f_X1_whyLooks wl
  have e1 : f_X1_why (some x) (ii c) (ii seed) 0 65536 (hp x F P A f l a b) = some (ii (wy (c = 1) (0 ≤ seed ∧ seed ≤ 65536))) := k_why _ _ (lo := 0) (hi := 65536) hc hs (by omega) (by omega)
  have e2 : f_X1_why (some x) (ii c) (ii n) 0 200 (hp x F P A f l a b) = some (ii (wy (c = 1) (0 ≤ n ∧ n ≤ 200))) := k_why _ _ (lo := 0) (hi := 200) hc hn (by omega) (by omega)
  rw [ok0, Option.bind_some, e1, e2, Option.bind_some, Option.bind_some, Option.bind_some]
  unfold wy
  simp (disch := first | omega | assumption) only [ii_lit, ii_neg, ii_add, ii_sub, ii_mul, ii_le, ii_lt, ii_eq, ii_ite, ii_or, ii_and, ii_bit, ii_rem, ii_div, b0_, b1_, b2_, b3_, true_and, and_true]
  (repeat' split) <;> first | rfl | omega
theorem k_looks (x : Nat) (F : Nat → Int) (P : Nat → Option Nat) (A : Nat → Int → Int) (f l : Nat → Int) (a : Nat → Int → Int) (b : fk_M) {h : Int} {ρ τ σ : Int → Int} (hK : Kq x P b h ρ τ σ) {p seed n : Int} (hp0 : rg p) (hs : rg seed) (hn : rg n) : KO x F P A f l a b (s_looks h ρ p seed n) (wl (h = 1 ∧ 0 ≤ p ∧ p < ρ 2) seed n) (f_X1_looks (some x) (ii p) (ii seed) (ii n) (hp x F P A f l a b)) := by
  unfold f_X1_looks s_looks
  have hy := wl_rg (h = 1 ∧ 0 ≤ p ∧ p < ρ 2) seed n
  rw [ok0, Option.bind_some, k_isPair x F P A f l a b hp0 hK, Option.bind_some, Option.bind_some, k_whyLooks x F P A f l a b (by split <;> omega) hs hn, Option.bind_some]
  simp only [b1_]
  by_cases h0 : wl (h = 1 ∧ 0 ≤ p ∧ p < ρ 2) seed n = 0
  · obtain ⟨⟨rfl, h2, h3⟩, h4⟩ := wl_0 h0
    obtain ⟨hh, -⟩ | ⟨-, hR, q, lw, hk, pa, sg, un, l5, l6, s1, s2, s3, hA⟩ := hK
    · omega
    have hq := hR.pr h2 h3
    rw [h0, if_pos (show ii 0 ≤ 0 by decide), if_pos rfl]
    obtain ⟨A', e1, e2, e3⟩ := k_looksBy x F P A f l a b hR hA h4.1 h4.2.1 h4.2.2.1 h4.2.2.2
    have e4 := e3 p h2 (by omega)
    refine KO.mk F A' (ke.rfl' _) (e2 0 (by omega)) ?_
    simp (disch := first | omega | assumption) only [Option.bind_some, bn2_some, ii_lit, ii_neg, ii_add, ii_sub, ii_mul, ii_le, ii_lt, ii_eq, ii_ite, ii_or, ii_and, ii_bit, ii_rem, ii_div, b0_, b1_, b2_, b3_, true_and, and_true, u1_eq, u1_ne, u2_eq, u2_nk, u2_ni, uP_eq, uP_ne, gk1, gk2, gk3, gk4, gk10, gk11, gk12, gk13, gk14, gk15, gk17, gkr0, gkr7, gkr8, gkr9, gkr16, gkr18, gkr19, gkr5, gkr6, ok0, ok1, ok2, ok3, gl2_0, gl2_1, gl2_2, gl3_0, gl3_1, gl3_2, gm0, gm2, gm3, gm4, gm5, gm6, gm7, gm8, gm9, gm10, gm11, gm13, gm14, gm22, gm23, gm26, gm27, gm28, gm29, gm31, gm32, gm33, gm36, gm37, gm39, gm40, gm41, gm1, gm12, gm15, gm16, gm17, gm18, gm19, gm20, gm21, gm24, gm25, gm30, gm34, gm35, gm38, rk0, sk0, rk9, sk9, rk16, sk16, rk18, sk18, rk19, sk19, rm1, sm1, rm12, sm12, rm15, sm15, rm16, sm16, rm17, sm17, rm18, sm18, rm19, sm19, rm20, sm20, rm21, sm21, rm24, sm24, rm25, sm25, rm30, sm30, rm34, sm34, rm35, sm35, rm38, sm38, pk1, pk2, pk3, pk4, pk10, pk11, pk12, pk13, pk14, pk15, pk17, pkr5, pkr6, pm0, pm2, pm3, pm4, pm5, pm6, pm7, pm8, pm9, pm10, pm11, pm13, pz13_0, pz13_1, pm14, pz14_0, pz14_1, pm22, pm23, pm26, pm27, pm28, pm29, pm31, pm32, pm33, pm36, pm37, pm39, pm40, pm41, pl2_0, pl2_1, pl2_2, pl3_0, pl3_1, pl3_2, e1, e4, k_well]
  · rw [if_neg h0, if_neg (show ¬ ii (wl (h = 1 ∧ 0 ≤ p ∧ p < ρ 2) seed n) ≤ 0 by rw [show (0 : Int32) = ii 0 from rfl, ii_le (by omega) (by omega)]; omega), Option.bind_some, k_refused, bn2_some]
    exact KO.ref ..
theorem k_verdict (x : Nat) (F : Nat → Int) (P : Nat → Option Nat) (A : Nat → Int → Int) (f l : Nat → Int) (a : Nat → Int → Int) (b : fk_M) {h : Int} {ρ τ σ : Int → Int} (hK : Kq x P b h ρ τ σ) {seed n : Int} (hs : rg seed) (hn : rg n) : KO x F P A f l a b (s_verdict h ρ seed n) (wl (h = 1) seed n) (f_X1_verdict (some x) (ii seed) (ii n) (hp x F P A f l a b)) := by
  unfold f_X1_verdict s_verdict
  have hy := wl_rg (h = 1) seed n
  rw [gkr5, Option.bind_some, ok0, Option.bind_some, k_has hK, k_whyLooks x F P A f l a b (by have := k_h01 hK; omega) hs hn, Option.bind_some]
  by_cases h0 : wl (h = 1) seed n = 0
  · obtain ⟨rfl, h4⟩ := wl_0 h0
    obtain ⟨hh, -⟩ | ⟨-, hR, q, lw, hk, pa, sg, un, l5, l6, s1, s2, s3, hA⟩ := hK
    · omega
    rw [h0, if_pos (show ii 0 ≤ 0 by decide), if_pos rfl]
    obtain ⟨A', e1, e2, e3⟩ := k_looksBy x F P A f l a b hR hA h4.1 h4.2.1 h4.2.2.1 h4.2.2.2
    have e5 := k_mostLooked x F P A' f l a b hR hA (lkd (ρ 2) seed n).2 e3 (fun t => by have := lkd_rg (ρ 2) seed n (by omega) t; omega)
    refine KO.mk F A' (ke.rfl' _) (e2 0 (by omega)) ?_
    simp (disch := first | omega | assumption) only [Option.bind_some, bn2_some, ii_lit, ii_neg, ii_add, ii_sub, ii_mul, ii_le, ii_lt, ii_eq, ii_ite, ii_or, ii_and, ii_bit, ii_rem, ii_div, b0_, b1_, b2_, b3_, true_and, and_true, u1_eq, u1_ne, u2_eq, u2_nk, u2_ni, uP_eq, uP_ne, gk1, gk2, gk3, gk4, gk10, gk11, gk12, gk13, gk14, gk15, gk17, gkr0, gkr7, gkr8, gkr9, gkr16, gkr18, gkr19, gkr5, gkr6, ok0, ok1, ok2, ok3, gl2_0, gl2_1, gl2_2, gl3_0, gl3_1, gl3_2, gm0, gm2, gm3, gm4, gm5, gm6, gm7, gm8, gm9, gm10, gm11, gm13, gm14, gm22, gm23, gm26, gm27, gm28, gm29, gm31, gm32, gm33, gm36, gm37, gm39, gm40, gm41, gm1, gm12, gm15, gm16, gm17, gm18, gm19, gm20, gm21, gm24, gm25, gm30, gm34, gm35, gm38, rk0, sk0, rk9, sk9, rk16, sk16, rk18, sk18, rk19, sk19, rm1, sm1, rm12, sm12, rm15, sm15, rm16, sm16, rm17, sm17, rm18, sm18, rm19, sm19, rm20, sm20, rm21, sm21, rm24, sm24, rm25, sm25, rm30, sm30, rm34, sm34, rm35, sm35, rm38, sm38, pk1, pk2, pk3, pk4, pk10, pk11, pk12, pk13, pk14, pk15, pk17, pkr5, pkr6, pm0, pm2, pm3, pm4, pm5, pm6, pm7, pm8, pm9, pm10, pm11, pm13, pz13_0, pz13_1, pm14, pz14_0, pz14_1, pm22, pm23, pm26, pm27, pm28, pm29, pm31, pm32, pm33, pm36, pm37, pm39, pm40, pm41, pl2_0, pl2_1, pl2_2, pl3_0, pl3_1, pl3_2, e1, e5, k_well]
  · rw [if_neg h0, if_neg (show ¬ ii (wl (h = 1) seed n) ≤ 0 by rw [show (0 : Int32) = ii 0 from rfl, ii_le (by omega) (by omega)]; omega), Option.bind_some, k_refused, bn2_some]
    exact KO.ref ..

theorem kb_drawn (x : Nat) (F : Nat → Int) (P : Nat → Option Nat) (A : Nat → Int → Int) (f l : Nat → Int) (a : Nat → Int → Int) (b : fk_M) {q lw hk : Int → Nat} {pa sg un l5 l6 s1 s2 s3 : Nat} {ρ τ σ : Int → Int} (hR : Rg ρ τ σ) (hA : Api x P b ρ τ σ q lw hk pa sg un l5 l6 s1 s2 s3) {p seed n : Int} (h0 : 0 ≤ p) (h1 : p < ρ 2) (hs : 0 ≤ seed) (hs2 : seed ≤ 65536) (hn : 0 ≤ n) (hn2 : n ≤ 60) : f_X1_drawn_L58 (some x) (ii p) (ii n) (hp x F P A f l a b) fk_fuel (ii seed) (ii (σ p)) (ii 1) = some (ii (itr (dws ρ σ p) n.toNat 1 (seed, σ p)).2, hp x (Fo F 0) P A f l a b) := by
  have hw := hR.wd
  have hq := hR.pr h0 h1
  have hA' := hA
  obtain ⟨KP5, KP6, K1, K2, K3, K4, K5, K6, K7, K8, K9, K10, K11, K12, K13, K14, K15, K16, K17, K18, K19, K20, K21, K22, K23, K24, K25, K26, K27, K28, K29, K30, K31⟩ := hA
  refine (loop_it (fun N (u : Int × Int) k => f_X1_drawn_L58 (some x) (ii p) (ii n) (hp x F P A f l a b) N (ii u.1) (ii u.2) (ii k)) (dws ρ σ p) (fun u => some (ii u.2, hp x (Fo F 0) P A f l a b)) (fun u k => (0 ≤ u.1 ∧ u.1 ≤ 65536) ∧ (0 ≤ u.2 ∧ u.2 ≤ ρ 0)) (lo := 1) (hi := n + 1) ?_ ?_ n.toNat fk_fuel (seed, σ p) 1 (by omega) (by omega) (by unfold fk_fuel; omega) ⟨⟨hs, hs2⟩, hq.1.2.2.2.2.1⟩).1
  · intros
    try dsimp only
    rw [f_X1_drawn_L58]
    simp (disch := first | omega | assumption) only [Option.bind_some, bn2_some, ii_lit, ii_neg, ii_add, ii_sub, ii_mul, ii_le, ii_lt, ii_eq, ii_ite, ii_or, ii_and, ii_bit, ii_rem, ii_div, b0_, b1_, b2_, b3_, true_and, and_true, u1_eq, u1_ne, u2_eq, u2_nk, u2_ni, uP_eq, uP_ne, gk1, gk2, gk3, gk4, gk10, gk11, gk12, gk13, gk14, gk15, gk17, gkr0, gkr7, gkr8, gkr9, gkr16, gkr18, gkr19, gkr5, gkr6, ok0, ok1, ok2, ok3, gl2_0, gl2_1, gl2_2, gl3_0, gl3_1, gl3_2, gm0, gm2, gm3, gm4, gm5, gm6, gm7, gm8, gm9, gm10, gm11, gm13, gm14, gm22, gm23, gm26, gm27, gm28, gm29, gm31, gm32, gm33, gm36, gm37, gm39, gm40, gm41, gm1, gm12, gm15, gm16, gm17, gm18, gm19, gm20, gm21, gm24, gm25, gm30, gm34, gm35, gm38, rk0, sk0, rk9, sk9, rk16, sk16, rk18, sk18, rk19, sk19, rm1, sm1, rm12, sm12, rm15, sm15, rm16, sm16, rm17, sm17, rm18, sm18, rm19, sm19, rm20, sm20, rm21, sm21, rm24, sm24, rm25, sm25, rm30, sm30, rm34, sm34, rm35, sm35, rm38, sm38, pk1, pk2, pk3, pk4, pk10, pk11, pk12, pk13, pk14, pk15, pk17, pkr5, pkr6, pm0, pm2, pm3, pm4, pm5, pm6, pm7, pm8, pm9, pm10, pm11, pm13, pz13_0, pz13_1, pm14, pz14_0, pz14_1, pm22, pm23, pm26, pm27, pm28, pm29, pm31, pm32, pm33, pm36, pm37, pm39, pm40, pm41, pl2_0, pl2_1, pl2_2, pl3_0, pl3_1, pl3_2, k_well]
    rw [if_pos (by omega)]
  · intro N u k k1 k2 hu
    obtain ⟨⟨hu1, hu2⟩, hu3, hu4⟩ := hu
    have hd := dr_rg u.1
    have hm0 : 0 ≤ dr u.1 % 100 ∧ dr u.1 % 100 < 100 := by omega
    refine ⟨⟨hd, bh_rg (by omega) hu3 hu4⟩, ?_⟩
    have e1 := k_then x F P A f l a b hR hA' (p := p) (v := u.2) (s := σ (5 + p)) (e := ρ (13 + p)) (g := σ 35 + k) (d := if ρ 1 ≤ dr u.1 % 100 then 0 else 1) h0 h1 hu3 hu4 (by omega) (by omega) (by omega) (by omega) (by omega) (by omega) (by split <;> omega) (by split <;> omega)
    have e2 := k_drawOf (hp x F P A f l a b) hu1 hu2
    try dsimp only
    rw [f_X1_drawn_L58]
    simp (disch := first | omega | assumption) only [Option.bind_some, bn2_some, ii_lit, ii_neg, ii_add, ii_sub, ii_mul, ii_le, ii_lt, ii_eq, ii_ite, ii_or, ii_and, ii_bit, ii_rem, ii_div, b0_, b1_, b2_, b3_, true_and, and_true, u1_eq, u1_ne, u2_eq, u2_nk, u2_ni, uP_eq, uP_ne, gk1, gk2, gk3, gk4, gk10, gk11, gk12, gk13, gk14, gk15, gk17, gkr0, gkr7, gkr8, gkr9, gkr16, gkr18, gkr19, gkr5, gkr6, ok0, ok1, ok2, ok3, gl2_0, gl2_1, gl2_2, gl3_0, gl3_1, gl3_2, gm0, gm2, gm3, gm4, gm5, gm6, gm7, gm8, gm9, gm10, gm11, gm13, gm14, gm22, gm23, gm26, gm27, gm28, gm29, gm31, gm32, gm33, gm36, gm37, gm39, gm40, gm41, gm1, gm12, gm15, gm16, gm17, gm18, gm19, gm20, gm21, gm24, gm25, gm30, gm34, gm35, gm38, rk0, sk0, rk9, sk9, rk16, sk16, rk18, sk18, rk19, sk19, rm1, sm1, rm12, sm12, rm15, sm15, rm16, sm16, rm17, sm17, rm18, sm18, rm19, sm19, rm20, sm20, rm21, sm21, rm24, sm24, rm25, sm25, rm30, sm30, rm34, sm34, rm35, sm35, rm38, sm38, pk1, pk2, pk3, pk4, pk10, pk11, pk12, pk13, pk14, pk15, pk17, pkr5, pkr6, pm0, pm2, pm3, pm4, pm5, pm6, pm7, pm8, pm9, pm10, pm11, pm13, pz13_0, pz13_1, pm14, pz14_0, pz14_1, pm22, pm23, pm26, pm27, pm28, pm29, pm31, pm32, pm33, pm36, pm37, pm39, pm40, pm41, pl2_0, pl2_1, pl2_2, pl3_0, pl3_1, pl3_2, e2, KP5, KP6, K25, K29, K2, K3, K27, K11, e1]
    rw [if_neg (by omega)]
    rfl
theorem k_drawn (x : Nat) (F : Nat → Int) (P : Nat → Option Nat) (A : Nat → Int → Int) (f l : Nat → Int) (a : Nat → Int → Int) (b : fk_M) {h : Int} {ρ τ σ : Int → Int} (hK : Kq x P b h ρ τ σ) {p seed n : Int} (hp0 : rg p) (hs : rg seed) (hn : rg n) : KO x F P A f l a b (s_drawn h ρ σ p seed n) (wy (h = 1 ∧ 0 ≤ p ∧ p < ρ 2) ((0 ≤ seed ∧ seed ≤ 65536) ∧ 0 ≤ n ∧ n ≤ 60)) (f_X1_drawn (some x) (ii p) (ii seed) (ii n) (hp x F P A f l a b)) := by
  unfold f_X1_drawn s_drawn
  have e1 : f_X1_why (some x) (ii (if (h = 1 ∧ 0 ≤ p ∧ p < ρ 2) then 1 else 0)) (ii seed) 0 65536 (hp x F P A f l a b) = some (ii (wy ((if (h = 1 ∧ 0 ≤ p ∧ p < ρ 2) then (1 : Int) else 0) = 1) (0 ≤ seed ∧ seed ≤ 65536))) := k_why _ _ (lo := 0) (hi := 65536) (by split <;> omega) hs (by omega) (by omega)
  simp only [b1_] at e1
  have e2 : f_X1_whyAhead (some x) 1 (ii n) (hp x F P A f l a b) = some (ii (wy ((1 : Int) = 1) (0 ≤ n ∧ n ≤ 60))) := k_whyAhead x F P A f l a b (c := 1) (by omega) hn
  rw [ok0, Option.bind_some, k_isPair x F P A f l a b hp0 hK, Option.bind_some, Option.bind_some, e1, Option.bind_some, e2, Option.bind_some, Option.bind_some]
  have hy1 := wy_rg (h = 1 ∧ 0 ≤ p ∧ p < ρ 2) (0 ≤ seed ∧ seed ≤ 65536)
  by_cases c1 : (h = 1 ∧ 0 ≤ p ∧ p < ρ 2)
  rotate_left
  · have hwy : wy (h = 1 ∧ 0 ≤ p ∧ p < ρ 2) ((0 ≤ seed ∧ seed ≤ 65536) ∧ 0 ≤ n ∧ n ≤ 60) = 1 := if_neg c1
    have hwy2 : wy (h = 1 ∧ 0 ≤ p ∧ p < ρ 2) (0 ≤ seed ∧ seed ≤ 65536) = 1 := if_neg c1
    rw [hwy, hwy2, if_neg (show ¬ ii 1 = 0 by decide), if_neg (by decide)]
    unfold f_X1_drawn_J29
    rw [if_neg (show ¬ ii 1 ≤ 0 by decide), ok0, Option.bind_some, k_refused, bn2_some]
    exact KO.ref ..
  by_cases c2 : 0 ≤ seed ∧ seed ≤ 65536
  rotate_left
  · have hwy : wy (h = 1 ∧ 0 ≤ p ∧ p < ρ 2) ((0 ≤ seed ∧ seed ≤ 65536) ∧ 0 ≤ n ∧ n ≤ 60) = 2 := by
      unfold wy
      rw [if_pos c1, if_neg (fun h => c2 h.1)]
    have hwy2 : wy (h = 1 ∧ 0 ≤ p ∧ p < ρ 2) (0 ≤ seed ∧ seed ≤ 65536) = 2 := by
      unfold wy
      rw [if_pos c1, if_neg c2]
    rw [hwy, hwy2, if_neg (show ¬ ii 2 = 0 by decide), if_neg (by decide)]
    unfold f_X1_drawn_J29
    rw [if_neg (show ¬ ii 2 ≤ 0 by decide), ok0, Option.bind_some, k_refused, bn2_some]
    exact KO.ref ..
  have hwy2 : wy (h = 1 ∧ 0 ≤ p ∧ p < ρ 2) (0 ≤ seed ∧ seed ≤ 65536) = 0 := wy_0.mpr ⟨c1, c2⟩
  rw [hwy2, if_pos (show ii 0 = 0 by decide)]
  by_cases c3 : 0 ≤ n ∧ n ≤ 60
  rotate_left
  · have hwy : wy (h = 1 ∧ 0 ≤ p ∧ p < ρ 2) ((0 ≤ seed ∧ seed ≤ 65536) ∧ 0 ≤ n ∧ n ≤ 60) = 2 := by
      unfold wy
      rw [if_pos c1, if_neg (fun h => c3 h.2)]
    have hwy3 : wy ((1 : Int) = 1) (0 ≤ n ∧ n ≤ 60) = 2 := by
      unfold wy
      rw [if_pos rfl, if_neg c3]
    rw [hwy, hwy3, if_neg (by decide)]
    unfold f_X1_drawn_J29
    rw [if_neg (show ¬ ii 2 ≤ 0 by decide), ok0, Option.bind_some, k_refused, bn2_some]
    exact KO.ref ..
  have hwy : wy (h = 1 ∧ 0 ≤ p ∧ p < ρ 2) ((0 ≤ seed ∧ seed ≤ 65536) ∧ 0 ≤ n ∧ n ≤ 60) = 0 := wy_0.mpr ⟨c1, c2, c3⟩
  have hwy3 : wy ((1 : Int) = 1) (0 ≤ n ∧ n ≤ 60) = 0 := wy_0.mpr ⟨rfl, c3⟩
  obtain ⟨rfl, hp1, hp2⟩ := c1
  obtain ⟨hh, -⟩ | ⟨-, hR, q, lw, hk, pa, sg, un, l5, l6, s1, s2, s3, hA⟩ := hK
  · omega
  have hq := hR.pr hp1 hp2
  rw [hwy, hwy3, if_pos rfl]
  unfold f_X1_drawn_J29
  rw [if_pos (show ii 0 ≤ 0 by decide)]
  refine KO.mk F A (ke.rfl' _) rfl ?_
  have e8 := kb_drawn x F P A f l a b hR hA hp1 hp2 c2.1 c2.2 c3.1 c3.2
  obtain ⟨KP5, KP6, K1, K2, K3, K4, K5, K6, K7, K8, K9, K10, K11, K12, K13, K14, K15, K16, K17, K18, K19, K20, K21, K22, K23, K24, K25, K26, K27, K28, K29, K30, K31⟩ := hA
  simp (disch := first | omega | assumption) only [Option.bind_some, bn2_some, ii_lit, ii_neg, ii_add, ii_sub, ii_mul, ii_le, ii_lt, ii_eq, ii_ite, ii_or, ii_and, ii_bit, ii_rem, ii_div, b0_, b1_, b2_, b3_, true_and, and_true, u1_eq, u1_ne, u2_eq, u2_nk, u2_ni, uP_eq, uP_ne, gk1, gk2, gk3, gk4, gk10, gk11, gk12, gk13, gk14, gk15, gk17, gkr0, gkr7, gkr8, gkr9, gkr16, gkr18, gkr19, gkr5, gkr6, ok0, ok1, ok2, ok3, gl2_0, gl2_1, gl2_2, gl3_0, gl3_1, gl3_2, gm0, gm2, gm3, gm4, gm5, gm6, gm7, gm8, gm9, gm10, gm11, gm13, gm14, gm22, gm23, gm26, gm27, gm28, gm29, gm31, gm32, gm33, gm36, gm37, gm39, gm40, gm41, gm1, gm12, gm15, gm16, gm17, gm18, gm19, gm20, gm21, gm24, gm25, gm30, gm34, gm35, gm38, rk0, sk0, rk9, sk9, rk16, sk16, rk18, sk18, rk19, sk19, rm1, sm1, rm12, sm12, rm15, sm15, rm16, sm16, rm17, sm17, rm18, sm18, rm19, sm19, rm20, sm20, rm21, sm21, rm24, sm24, rm25, sm25, rm30, sm30, rm34, sm34, rm35, sm35, rm38, sm38, pk1, pk2, pk3, pk4, pk10, pk11, pk12, pk13, pk14, pk15, pk17, pkr5, pkr6, pm0, pm2, pm3, pm4, pm5, pm6, pm7, pm8, pm9, pm10, pm11, pm13, pz13_0, pz13_1, pm14, pz14_0, pz14_1, pm22, pm23, pm26, pm27, pm28, pm29, pm31, pm32, pm33, pm36, pm37, pm39, pm40, pm41, pl2_0, pl2_1, pl2_2, pl3_0, pl3_1, pl3_2, KP6, K24, K28, e8]
