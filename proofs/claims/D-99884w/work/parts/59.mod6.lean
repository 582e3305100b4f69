/-! PLAIN 9b: the model: the gallery, draws -/
set_option maxRecDepth 100000
def dr (s : Int) : Int := (75 * s + 74) % 65537
theorem dr_rg (s : Int) : 0 ≤ dr s ∧ dr s ≤ 65536 := by
  unfold dr
  omega
def lkS (n : Int) (u : Int × (Int → Int)) (_ : Int) : Int × (Int → Int) := (dr u.1, fun t => if t = dr u.1 % n then u.2 t + 1 else u.2 t)
def lkd (n seed m : Int) : Int × (Int → Int) := itr (lkS n) m.toNat 0 (seed, fun _ => 0)
theorem lkd_rg (n seed : Int) (m : Int) (hm : 0 ≤ m) (t : Int) : 0 ≤ (lkd n seed m).2 t ∧ (lkd n seed m).2 t ≤ m := by
  have h : ∀ (d : Nat) (k : Int) (u : Int × (Int → Int)) (c : Int), (∀ t, 0 ≤ u.2 t ∧ u.2 t ≤ c) → ∀ t, 0 ≤ (itr (lkS n) d k u).2 t ∧ (itr (lkS n) d k u).2 t ≤ c + d := by
    intro d
    induction d with
    | zero =>
      intro k u c h t
      have := h t
      show 0 ≤ u.2 t ∧ u.2 t ≤ c + ((0 : Nat) : Int)
      omega
    | succ d ih =>
      intro k u c h t
      have := ih (k + 1) (lkS n u k) (c + 1) (fun t => by
        have := h t
        show 0 ≤ (if t = dr u.1 % n then u.2 t + 1 else u.2 t) ∧ (if t = dr u.1 % n then u.2 t + 1 else u.2 t) ≤ c + 1
        split <;> omega) t
      show 0 ≤ (itr (lkS n) d (k + 1) (lkS n u k)).2 t ∧ (itr (lkS n) d (k + 1) (lkS n u k)).2 t ≤ c + ((d + 1 : Nat) : Int)
      omega
  have := h m.toNat 0 (seed, fun _ => 0) 0 (fun t => ⟨Int.le_refl 0, Int.le_refl 0⟩) t
  unfold lkd
  omega
theorem m_look59 (x : Nat) (F : Nat → Int) (P : Nat → Option Nat) (A : Nat → Int → Int) (f l : Nat → Int) (a : Nat → Int → Int) (b : fk_M) {seed n : Int} (hR : Rg (a 15) (a 17) (a 19)) (hs : 0 ≤ seed) (hs2 : seed ≤ 65536) (hn : 0 ≤ n) (hn2 : n ≤ 200) (h0 : ∀ t, 0 ≤ t → t < 5 → a 38 t = 0) : ∃ a', f_X2_lookWhy_L59 (some (x + 8)) (ii n) fk_fuel (ii seed) (ii 0) (hp x F P A f l a b) = some (ii 0, hp x F P A f l a' b) ∧ (∀ j, j ≠ 38 → a' j = a j) ∧ (∀ t, 0 ≤ t → t < 5 → a' 38 t = (lkd (a 15 2) seed n).2 t) := by
  have hw := hR.wd
  have hL := loop_ex (fun N (u : Int × (Int → Int)) k (y : Nat → Int → Int) => f_X2_lookWhy_L59 (some (x + 8)) (ii n) N (ii u.1) (ii k) (hp x F P A f l y b)) (lkS (a 15 2)) (fun u y => some (ii 0, hp x F P A f l y b)) (fun u k y => (0 ≤ u.1 ∧ u.1 ≤ 65536) ∧ (∀ j, j ≠ 38 → y j = a j) ∧ (∀ t, 0 ≤ t → t < 5 → y 38 t = u.2 t)) (lo := 0) (hi := n) ?_ ?_ n.toNat fk_fuel (seed, fun _ => 0) 0 a (by omega) (by omega) (by unfold fk_fuel; omega) ⟨⟨hs, hs2⟩, fun _ _ => rfl, h0⟩
  · obtain ⟨a', e1, e2⟩ := hL
    exact ⟨a', e1, e2.2.1, e2.2.2⟩
  · intro N u y hy
    try dsimp only
    rw [f_X2_lookWhy_L59]
    simp (disch := first | omega | assumption) only [Option.bind_some, bn2_some, ii_lit, ii_neg, ii_add, ii_sub, ii_mul, ii_le, ii_lt, ii_eq, ii_ite, ii_or, ii_and, ii_bit, ii_rem, ii_div, b0_, b1_, b2_, b3_, true_and, and_true, u1_eq, u1_ne, u2_eq, u2_nk, u2_ni, uP_eq, uP_ne, gk1, gk2, gk3, gk4, gk10, gk11, gk12, gk13, gk14, gk15, gk17, gkr0, gkr7, gkr8, gkr9, gkr16, gkr18, gkr19, gkr5, gkr6, ok0, ok1, ok2, ok3, gl2_0, gl2_1, gl2_2, gl3_0, gl3_1, gl3_2, gm0, gm2, gm3, gm4, gm5, gm6, gm7, gm8, gm9, gm10, gm11, gm13, gm14, gm22, gm23, gm26, gm27, gm28, gm29, gm31, gm32, gm33, gm36, gm37, gm39, gm40, gm41, gm1, gm12, gm15, gm16, gm17, gm18, gm19, gm20, gm21, gm24, gm25, gm30, gm34, gm35, gm38, rk0, sk0, rk9, sk9, rk16, sk16, rk18, sk18, rk19, sk19, rm1, sm1, rm12, sm12, rm15, sm15, rm16, sm16, rm17, sm17, rm18, sm18, rm19, sm19, rm20, sm20, rm21, sm21, rm24, sm24, rm25, sm25, rm30, sm30, rm34, sm34, rm35, sm35, rm38, sm38, pk1, pk2, pk3, pk4, pk10, pk11, pk12, pk13, pk14, pk15, pk17, pkr5, pkr6, pm0, pm2, pm3, pm4, pm5, pm6, pm7, pm8, pm9, pm10, pm11, pm13, pz13_0, pz13_1, pm14, pz14_0, pz14_1, pm22, pm23, pm26, pm27, pm28, pm29, pm31, pm32, pm33, pm36, pm37, pm39, pm40, pm41, pl2_0, pl2_1, pl2_2, pl3_0, pl3_1, pl3_2]
    rw [if_pos (by omega)]
  · intro N u k y k1 k2 hy
    obtain ⟨⟨hu1, hu2⟩, hy1, hy2⟩ := hy
    have e2 := congrFun (hy1 15 (by omega)) 2
    have hd := dr_rg u.1
    have hm0 : 0 ≤ dr u.1 % a 15 2 := Int.emod_nonneg _ (by omega)
    have hm1 : dr u.1 % a 15 2 < a 15 2 := Int.emod_lt_of_pos _ (by omega)
    have ed : (75 * u.1 + 74) % 65537 = dr u.1 := rfl
    refine ⟨u2 y 38 (dr u.1 % a 15 2) (y 38 (dr u.1 % a 15 2) + 1), ⟨hd, fun j hj => (u2_nk _ _ _ hj).trans (hy1 j hj), fun t t1 t2 => ?_⟩, ?_⟩
    · show u2 y 38 (dr u.1 % a 15 2) (y 38 (dr u.1 % a 15 2) + 1) 38 t = (if t = dr u.1 % a 15 2 then u.2 t + 1 else u.2 t)
      by_cases ht : t = dr u.1 % a 15 2
      · rw [if_pos ht, ht, u2_eq, hy2 _ hm0 (by omega)]
      · rw [if_neg ht, u2_ni _ _ _ ht, hy2 t t1 t2]
    · try dsimp only
      rw [f_X2_lookWhy_L59]
      simp (disch := first | omega | assumption) only [Option.bind_some, bn2_some, ii_lit, ii_neg, ii_add, ii_sub, ii_mul, ii_le, ii_lt, ii_eq, ii_ite, ii_or, ii_and, ii_bit, ii_rem, ii_div, b0_, b1_, b2_, b3_, true_and, and_true, u1_eq, u1_ne, u2_eq, u2_nk, u2_ni, uP_eq, uP_ne, gk1, gk2, gk3, gk4, gk10, gk11, gk12, gk13, gk14, gk15, gk17, gkr0, gkr7, gkr8, gkr9, gkr16, gkr18, gkr19, gkr5, gkr6, ok0, ok1, ok2, ok3, gl2_0, gl2_1, gl2_2, gl3_0, gl3_1, gl3_2, gm0, gm2, gm3, gm4, gm5, gm6, gm7, gm8, gm9, gm10, gm11, gm13, gm14, gm22, gm23, gm26, gm27, gm28, gm29, gm31, gm32, gm33, gm36, gm37, gm39, gm40, gm41, gm1, gm12, gm15, gm16, gm17, gm18, gm19, gm20, gm21, gm24, gm25, gm30, gm34, gm35, gm38, rk0, sk0, rk9, sk9, rk16, sk16, rk18, sk18, rk19, sk19, rm1, sm1, rm12, sm12, rm15, sm15, rm16, sm16, rm17, sm17, rm18, sm18, rm19, sm19, rm20, sm20, rm21, sm21, rm24, sm24, rm25, sm25, rm30, sm30, rm34, sm34, rm35, sm35, rm38, sm38, pk1, pk2, pk3, pk4, pk10, pk11, pk12, pk13, pk14, pk15, pk17, pkr5, pkr6, pm0, pm2, pm3, pm4, pm5, pm6, pm7, pm8, pm9, pm10, pm11, pm13, pz13_0, pz13_1, pm14, pz14_0, pz14_1, pm22, pm23, pm26, pm27, pm28, pm29, pm31, pm32, pm33, pm36, pm37, pm39, pm40, pm41, pl2_0, pl2_1, pl2_2, pl3_0, pl3_1, pl3_2, e2, ed]
      rw [if_neg (by omega), if_neg (by omega)]
      rfl
def wl (c : Prop) [Decidable c] (seed n : Int) : Int := if c then (if 0 ≤ seed ∧ seed ≤ 65536 ∧ 0 ≤ n ∧ n ≤ 200 then 0 else 2) else 1
theorem m_lookWhy (x : Nat) (F : Nat → Int) (P : Nat → Option Nat) (A : Nat → Int → Int) (f l : Nat → Int) (a : Nat → Int → Int) (b : fk_M) {c seed n : Int} (hc : c = 0 ∨ (c = 1 ∧ Rg (a 15) (a 17) (a 19))) (hs : rg seed) (hn : rg n) : ∃ a', f_X2_lookWhy (some (x + 8)) (ii c) (ii seed) (ii n) (hp x F P A f l a b) = some (ii (wl (c = 1) seed n), hp x F P A f l a' b) ∧ (∀ j, j ≠ 38 → a' j = a j) ∧ (wl (c = 1) seed n = 0 → ∀ t, 0 ≤ t → t < 5 → a' 38 t = (lkd (a 15 2) seed n).2 t) := by
  unfold f_X2_lookWhy wl
  rcases hc with rfl | ⟨rfl, hR⟩
  · refine ⟨a, ?_, fun _ _ => rfl, fun h => ?_⟩
    · rw [if_pos (show ii 0 = 0 by decide), if_neg (by decide)]
      rfl
    · rw [if_neg (by decide)] at h
      omega
  have e1 : f_X2_in (ii seed) 0 65536 (hp x F P A f l a b) = some (ii (if 0 ≤ seed ∧ seed ≤ 65536 then 1 else 0)) := m_in _ (lo := 0) (hi := 65536) hs (by omega) (by omega)
  have e2 : f_X2_in (ii n) 0 200 (hp x F P A f l a b) = some (ii (if 0 ≤ n ∧ n ≤ 200 then 1 else 0)) := m_in _ (lo := 0) (hi := 200) hn (by omega) (by omega)
  rw [if_neg (show ¬ ii 1 = 0 by decide), e1, e2, Option.bind_some, Option.bind_some, if_pos rfl]
  by_cases h1 : 0 ≤ seed ∧ seed ≤ 65536
  rotate_left
  · have h2 : ¬ (0 ≤ seed ∧ seed ≤ 65536 ∧ 0 ≤ n ∧ n ≤ 200) := by omega
    rw [if_neg h1, if_pos (show ii 0 = 0 by decide), if_neg h2]
    exact ⟨a, rfl, fun _ _ => rfl, fun h => by omega⟩
  rw [if_pos h1, if_neg (show ¬ ii 1 = 0 by decide)]
  by_cases h3 : 0 ≤ n ∧ n ≤ 200
  rotate_left
  · have h2 : ¬ (0 ≤ seed ∧ seed ≤ 65536 ∧ 0 ≤ n ∧ n ≤ 200) := by omega
    rw [if_neg h3, if_pos (show ii 0 = 0 by decide), if_neg h2]
    exact ⟨a, rfl, fun _ _ => rfl, fun h => by omega⟩
  have h2 : 0 ≤ seed ∧ seed ≤ 65536 ∧ 0 ≤ n ∧ n ≤ 200 := by omega
  rw [if_pos h3, if_neg (show ¬ ii 1 = 0 by decide), if_pos h2]
  have hL := loop_ex (fun N (_ : Unit) k (y : Nat → Int → Int) => f_X2_lookWhy_L33 (some (x + 8)) (ii seed) (ii n) N (ii k) (hp x F P A f l y b)) (fun u k => u) (fun u y => f_X2_lookWhy_L59 (some (x + 8)) (ii n) fk_fuel (ii seed) (ii 0) (hp x F P A f l y b)) (fun u k y => (∀ j, j ≠ 38 → y j = a j) ∧ (∀ t, 0 ≤ t → t < k → y 38 t = 0)) (lo := 0) (hi := 5) ?_ ?_ 5 fk_fuel () 0 a (by omega) (by omega) (by unfold fk_fuel; omega) ⟨fun _ _ => rfl, fun t h1 h2 => by omega⟩
  · obtain ⟨a1, g1, g2, g3⟩ := hL
    have e15 := g2 15 (by omega)
    have e17 := g2 17 (by omega)
    have e19 := g2 19 (by omega)
    obtain ⟨a', k1, k2, k3⟩ := m_look59 x F P A f l a1 b (seed := seed) (n := n) (by rw [e15, e17, e19]; exact hR) h1.1 h1.2 h3.1 h3.2 g3
    refine ⟨a', g1.trans k1, fun j hj => (k2 j hj).trans (g2 j hj), fun _ => ?_⟩
    rw [e15] at k3
    exact k3
  · intro N u y hy
    try dsimp only
    rw [f_X2_lookWhy_L33]
    simp (disch := first | omega | assumption) only [Option.bind_some, bn2_some, ii_lit, ii_neg, ii_add, ii_sub, ii_mul, ii_le, ii_lt, ii_eq, ii_ite, ii_or, ii_and, ii_bit, ii_rem, ii_div, b0_, b1_, b2_, b3_, true_and, and_true, u1_eq, u1_ne, u2_eq, u2_nk, u2_ni, uP_eq, uP_ne, gk1, gk2, gk3, gk4, gk10, gk11, gk12, gk13, gk14, gk15, gk17, gkr0, gkr7, gkr8, gkr9, gkr16, gkr18, gkr19, gkr5, gkr6, ok0, ok1, ok2, ok3, gl2_0, gl2_1, gl2_2, gl3_0, gl3_1, gl3_2, gm0, gm2, gm3, gm4, gm5, gm6, gm7, gm8, gm9, gm10, gm11, gm13, gm14, gm22, gm23, gm26, gm27, gm28, gm29, gm31, gm32, gm33, gm36, gm37, gm39, gm40, gm41, gm1, gm12, gm15, gm16, gm17, gm18, gm19, gm20, gm21, gm24, gm25, gm30, gm34, gm35, gm38, rk0, sk0, rk9, sk9, rk16, sk16, rk18, sk18, rk19, sk19, rm1, sm1, rm12, sm12, rm15, sm15, rm16, sm16, rm17, sm17, rm18, sm18, rm19, sm19, rm20, sm20, rm21, sm21, rm24, sm24, rm25, sm25, rm30, sm30, rm34, sm34, rm35, sm35, rm38, sm38, pk1, pk2, pk3, pk4, pk10, pk11, pk12, pk13, pk14, pk15, pk17, pkr5, pkr6, pm0, pm2, pm3, pm4, pm5, pm6, pm7, pm8, pm9, pm10, pm11, pm13, pz13_0, pz13_1, pm14, pz14_0, pz14_1, pm22, pm23, pm26, pm27, pm28, pm29, pm31, pm32, pm33, pm36, pm37, pm39, pm40, pm41, pl2_0, pl2_1, pl2_2, pl3_0, pl3_1, pl3_2]
    rw [if_pos (by omega)]
  · intro N u k y k1 k2 hy
    refine ⟨u2 y 38 k 0, ⟨fun j hj => (u2_nk _ _ _ hj).trans (hy.1 j hj), fun t h1 h2 => ?_⟩, ?_⟩
    · by_cases ht : t = k
      · rw [ht, u2_eq]
      · rw [u2_ni _ _ _ ht]
        exact hy.2 t h1 (by omega)
    · skip
      try dsimp only
      rw [f_X2_lookWhy_L33]
      simp (disch := first | omega | assumption) only [Option.bind_some, bn2_some, ii_lit, ii_neg, ii_add, ii_sub, ii_mul, ii_le, ii_lt, ii_eq, ii_ite, ii_or, ii_and, ii_bit, ii_rem, ii_div, b0_, b1_, b2_, b3_, true_and, and_true, u1_eq, u1_ne, u2_eq, u2_nk, u2_ni, uP_eq, uP_ne, gk1, gk2, gk3, gk4, gk10, gk11, gk12, gk13, gk14, gk15, gk17, gkr0, gkr7, gkr8, gkr9, gkr16, gkr18, gkr19, gkr5, gkr6, ok0, ok1, ok2, ok3, gl2_0, gl2_1, gl2_2, gl3_0, gl3_1, gl3_2, gm0, gm2, gm3, gm4, gm5, gm6, gm7, gm8, gm9, gm10, gm11, gm13, gm14, gm22, gm23, gm26, gm27, gm28, gm29, gm31, gm32, gm33, gm36, gm37, gm39, gm40, gm41, gm1, gm12, gm15, gm16, gm17, gm18, gm19, gm20, gm21, gm24, gm25, gm30, gm34, gm35, gm38, rk0, sk0, rk9, sk9, rk16, sk16, rk18, sk18, rk19, sk19, rm1, sm1, rm12, sm12, rm15, sm15, rm16, sm16, rm17, sm17, rm18, sm18, rm19, sm19, rm20, sm20, rm21, sm21, rm24, sm24, rm25, sm25, rm30, sm30, rm34, sm34, rm35, sm35, rm38, sm38, pk1, pk2, pk3, pk4, pk10, pk11, pk12, pk13, pk14, pk15, pk17, pkr5, pkr6, pm0, pm2, pm3, pm4, pm5, pm6, pm7, pm8, pm9, pm10, pm11, pm13, pz13_0, pz13_1, pm14, pz14_0, pz14_1, pm22, pm23, pm26, pm27, pm28, pm29, pm31, pm32, pm33, pm36, pm37, pm39, pm40, pm41, pl2_0, pl2_1, pl2_2, pl3_0, pl3_1, pl3_2]
      rw [if_neg (by omega)]
theorem m_verdictOf (x : Nat) (F : Nat → Int) (P : Nat → Option Nat) (A : Nat → Int → Int) (f l : Nat → Int) (a : Nat → Int → Int) (b : fk_M) (L : Int → Int) (hL0 : ∀ t, 0 ≤ t → t < 5 → a 38 t = L t) (hLr : ∀ t, 0 ≤ L t ∧ L t ≤ 1000000) (hR : Rg (a 15) (a 17) (a 19)) : f_X2_verdictOf (some (x + 8)) (hp x F P A f l a b) = some (ii (itr (bst L) (a 15 2 - 1).toNat 1 0)) := by
  have hw := hR.wd
  unfold f_X2_verdictOf
  refine (loop_it (fun N u k => f_X2_verdictOf_L4 (some (x + 8)) (hp x F P A f l a b) N (ii u) (ii k)) (bst L) (fun u => some (ii u)) (fun u k => 0 ≤ u ∧ u < k) (lo := 1) (hi := a 15 2) ?_ ?_ (a 15 2 - 1).toNat fk_fuel 0 1 (by omega) (by omega) (by unfold fk_fuel; omega) (by omega)).1
  · intros
    try dsimp only
    rw [f_X2_verdictOf_L4]
    simp (disch := first | omega | assumption) only [Option.bind_some, bn2_some, ii_lit, ii_neg, ii_add, ii_sub, ii_mul, ii_le, ii_lt, ii_eq, ii_ite, ii_or, ii_and, ii_bit, ii_rem, ii_div, b0_, b1_, b2_, b3_, true_and, and_true, u1_eq, u1_ne, u2_eq, u2_nk, u2_ni, uP_eq, uP_ne, gk1, gk2, gk3, gk4, gk10, gk11, gk12, gk13, gk14, gk15, gk17, gkr0, gkr7, gkr8, gkr9, gkr16, gkr18, gkr19, gkr5, gkr6, ok0, ok1, ok2, ok3, gl2_0, gl2_1, gl2_2, gl3_0, gl3_1, gl3_2, gm0, gm2, gm3, gm4, gm5, gm6, gm7, gm8, gm9, gm10, gm11, gm13, gm14, gm22, gm23, gm26, gm27, gm28, gm29, gm31, gm32, gm33, gm36, gm37, gm39, gm40, gm41, gm1, gm12, gm15, gm16, gm17, gm18, gm19, gm20, gm21, gm24, gm25, gm30, gm34, gm35, gm38, rk0, sk0, rk9, sk9, rk16, sk16, rk18, sk18, rk19, sk19, rm1, sm1, rm12, sm12, rm15, sm15, rm16, sm16, rm17, sm17, rm18, sm18, rm19, sm19, rm20, sm20, rm21, sm21, rm24, sm24, rm25, sm25, rm30, sm30, rm34, sm34, rm35, sm35, rm38, sm38, pk1, pk2, pk3, pk4, pk10, pk11, pk12, pk13, pk14, pk15, pk17, pkr5, pkr6, pm0, pm2, pm3, pm4, pm5, pm6, pm7, pm8, pm9, pm10, pm11, pm13, pz13_0, pz13_1, pm14, pz14_0, pz14_1, pm22, pm23, pm26, pm27, pm28, pm29, pm31, pm32, pm33, pm36, pm37, pm39, pm40, pm41, pl2_0, pl2_1, pl2_2, pl3_0, pl3_1, pl3_2]
    rw [if_pos (by omega)]
  · intro N u k k1 k2 hu
    have e1 := hL0 k (by omega) (by omega)
    have e2 := hL0 u (by omega) (by omega)
    have r1 := hLr k
    have r2 := hLr u
    refine ⟨by unfold bst; split <;> omega, ?_⟩
    try dsimp only
    rw [f_X2_verdictOf_L4]
    simp (disch := first | omega | assumption) only [Option.bind_some, bn2_some, ii_lit, ii_neg, ii_add, ii_sub, ii_mul, ii_le, ii_lt, ii_eq, ii_ite, ii_or, ii_and, ii_bit, ii_rem, ii_div, b0_, b1_, b2_, b3_, true_and, and_true, u1_eq, u1_ne, u2_eq, u2_nk, u2_ni, uP_eq, uP_ne, gk1, gk2, gk3, gk4, gk10, gk11, gk12, gk13, gk14, gk15, gk17, gkr0, gkr7, gkr8, gkr9, gkr16, gkr18, gkr19, gkr5, gkr6, ok0, ok1, ok2, ok3, gl2_0, gl2_1, gl2_2, gl3_0, gl3_1, gl3_2, gm0, gm2, gm3, gm4, gm5, gm6, gm7, gm8, gm9, gm10, gm11, gm13, gm14, gm22, gm23, gm26, gm27, gm28, gm29, gm31, gm32, gm33, gm36, gm37, gm39, gm40, gm41, gm1, gm12, gm15, gm16, gm17, gm18, gm19, gm20, gm21, gm24, gm25, gm30, gm34, gm35, gm38, rk0, sk0, rk9, sk9, rk16, sk16, rk18, sk18, rk19, sk19, rm1, sm1, rm12, sm12, rm15, sm15, rm16, sm16, rm17, sm17, rm18, sm18, rm19, sm19, rm20, sm20, rm21, sm21, rm24, sm24, rm25, sm25, rm30, sm30, rm34, sm34, rm35, sm35, rm38, sm38, pk1, pk2, pk3, pk4, pk10, pk11, pk12, pk13, pk14, pk15, pk17, pkr5, pkr6, pm0, pm2, pm3, pm4, pm5, pm6, pm7, pm8, pm9, pm10, pm11, pm13, pz13_0, pz13_1, pm14, pz14_0, pz14_1, pm22, pm23, pm26, pm27, pm28, pm29, pm31, pm32, pm33, pm36, pm37, pm39, pm40, pm41, pl2_0, pl2_1, pl2_2, pl3_0, pl3_1, pl3_2, e1, e2]
    rw [if_neg (by omega)]
    rfl
def s_looks (h : Int) (ρ : Int → Int) (p seed n : Int) : Int := if wl (h = 1 ∧ 0 ≤ p ∧ p < ρ 2) seed n = 0 then (lkd (ρ 2) seed n).2 p else -1
def s_verdict (h : Int) (ρ : Int → Int) (seed n : Int) : Int := if wl (h = 1) seed n = 0 then itr (bst (lkd (ρ 2) seed n).2) (ρ 2 - 1).toNat 1 0 else -1
theorem wl_rg (c : Prop) [Decidable c] (seed n : Int) : 0 ≤ wl c seed n ∧ wl c seed n ≤ 2 := by
  unfold wl
  (repeat' split) <;> omega
theorem wl_0 {c : Prop} [Decidable c] {seed n : Int} (h : wl c seed n = 0) : c ∧ 0 ≤ seed ∧ seed ≤ 65536 ∧ 0 ≤ n ∧ n ≤ 200 := by
  unfold wl at h
  split at h
  · split at h
    · exact ⟨‹_›, ‹_›⟩
    · omega
  · omega
theorem m_looks (x : Nat) (F : Nat → Int) (P : Nat → Option Nat) (A : Nat → Int → Int) (f l : Nat → Int) (a : Nat → Int → Int) (b : fk_M) {p seed n : Int} (hp0 : rg p) (hs : rg seed) (hn : rg n) (hM : Hm f a) : MO x F P A f l a b (s_looks (f 14) (a 15) p seed n) (wl (f 14 = 1 ∧ 0 ≤ p ∧ p < a 15 2) seed n) (f_X2_looks (some (x + 8)) (ii p) (ii seed) (ii n) (hp x F P A f l a b)) := by
  unfold f_X2_looks s_looks
  have hM' : Hm (fo f 0) a := hM
  have hy := wl_rg (f 14 = 1 ∧ 0 ≤ p ∧ p < a 15 2) seed n
  rw [ok1, Option.bind_some, m_good, Option.bind_some, ok1, Option.bind_some, m_isPair _ _ _ _ _ _ _ _ hp0 hM', Option.bind_some, Option.bind_some]
  have e14 : fo f 0 14 = f 14 := rfl
  rw [e14]
  obtain ⟨a', e1, e2, e3⟩ := m_lookWhy x F P A (fo f 0) l a b (c := if (f 14 = 1 ∧ 0 ≤ p ∧ p < a 15 2) then 1 else 0) (seed := seed) (n := n) (by
    by_cases h0 : (f 14 = 1 ∧ 0 ≤ p ∧ p < a 15 2)
    · rw [if_pos h0]
      rcases hM with h | ⟨h, hR⟩
      · omega
      · exact Or.inr ⟨rfl, hR⟩
    · rw [if_neg h0]
      exact Or.inl rfl) hs hn
  simp only [b1_] at e1 e3
  rw [e1, bn2_some]
  have ma' : ma a a' := ma.k 38 (by omega) e2
  by_cases h0 : wl (f 14 = 1 ∧ 0 ≤ p ∧ p < a 15 2) seed n = 0
  · obtain ⟨⟨h1, h2, h3⟩, h4⟩ := wl_0 h0
    obtain h | ⟨-, hR⟩ := hM
    · omega
    have hq := hR.pr h2 h3
    have e4 := e3 h0 p h2 (by omega)
    rw [h0, if_pos (show ii 0 = 0 by decide), if_pos rfl]
    refine MO.mk (fo f 0) l a' ?_ ((u1_ne _ _ (by omega)).trans (u1_eq ..)) (u1_eq ..) (mk.o f 0) ma'
    simp (disch := first | omega | assumption) only [Option.bind_some, bn2_some, ii_lit, ii_neg, ii_add, ii_sub, ii_mul, ii_le, ii_lt, ii_eq, ii_ite, ii_or, ii_and, ii_bit, ii_rem, ii_div, b0_, b1_, b2_, b3_, true_and, and_true, u1_eq, u1_ne, u2_eq, u2_nk, u2_ni, uP_eq, uP_ne, gk1, gk2, gk3, gk4, gk10, gk11, gk12, gk13, gk14, gk15, gk17, gkr0, gkr7, gkr8, gkr9, gkr16, gkr18, gkr19, gkr5, gkr6, ok0, ok1, ok2, ok3, gl2_0, gl2_1, gl2_2, gl3_0, gl3_1, gl3_2, gm0, gm2, gm3, gm4, gm5, gm6, gm7, gm8, gm9, gm10, gm11, gm13, gm14, gm22, gm23, gm26, gm27, gm28, gm29, gm31, gm32, gm33, gm36, gm37, gm39, gm40, gm41, gm1, gm12, gm15, gm16, gm17, gm18, gm19, gm20, gm21, gm24, gm25, gm30, gm34, gm35, gm38, rk0, sk0, rk9, sk9, rk16, sk16, rk18, sk18, rk19, sk19, rm1, sm1, rm12, sm12, rm15, sm15, rm16, sm16, rm17, sm17, rm18, sm18, rm19, sm19, rm20, sm20, rm21, sm21, rm24, sm24, rm25, sm25, rm30, sm30, rm34, sm34, rm35, sm35, rm38, sm38, pk1, pk2, pk3, pk4, pk10, pk11, pk12, pk13, pk14, pk15, pk17, pkr5, pkr6, pm0, pm2, pm3, pm4, pm5, pm6, pm7, pm8, pm9, pm10, pm11, pm13, pz13_0, pz13_1, pm14, pz14_0, pz14_1, pm22, pm23, pm26, pm27, pm28, pm29, pm31, pm32, pm33, pm36, pm37, pm39, pm40, pm41, pl2_0, pl2_1, pl2_2, pl3_0, pl3_1, pl3_2, e4]
  · rw [if_neg h0, if_neg (show ¬ ii (wl (f 14 = 1 ∧ 0 ≤ p ∧ p < a 15 2) seed n) = 0 by rw [show (0 : Int32) = ii 0 from rfl, ii_eq (by omega) (by omega)]; exact h0), ok1, Option.bind_some, m_no, bn2_some, u1_u1]
    exact ⟨_, l, a', rfl, (u1_ne _ _ (by omega)).trans (u1_eq ..), u1_eq .., mk.o .., ma'⟩
theorem m_verdict (x : Nat) (F : Nat → Int) (P : Nat → Option Nat) (A : Nat → Int → Int) (f l : Nat → Int) (a : Nat → Int → Int) (b : fk_M) {seed n : Int} (hs : rg seed) (hn : rg n) (hM : Hm f a) : MO x F P A f l a b (s_verdict (f 14) (a 15) seed n) (wl (f 14 = 1) seed n) (f_X2_verdict (some (x + 8)) (ii seed) (ii n) (hp x F P A f l a b)) := by
  unfold f_X2_verdict s_verdict
  have hy := wl_rg (f 14 = 1) seed n
  rw [ok1, Option.bind_some, m_good, Option.bind_some, gm14, Option.bind_some, ok1, Option.bind_some]
  have e14 : fo f 0 14 = f 14 := rfl
  rw [e14]
  obtain ⟨a', e1, e2, e3⟩ := m_lookWhy x F P A (fo f 0) l a b (c := f 14) (seed := seed) (n := n) hM hs hn
  rw [e1, bn2_some]
  have ma' : ma a a' := ma.k 38 (by omega) e2
  by_cases h0 : wl (f 14 = 1) seed n = 0
  · obtain ⟨h1, h4⟩ := wl_0 h0
    obtain h | ⟨-, hR⟩ := hM
    · omega
    rw [h0, if_pos (show ii 0 = 0 by decide), if_pos rfl]
    refine MO.mk (fo f 0) l a' ?_ ((u1_ne _ _ (by omega)).trans (u1_eq ..)) (u1_eq ..) (mk.o f 0) ma'
    have e5 := m_verdictOf x F P A (fo f 0) l a' b (lkd (a 15 2) seed n).2 (e3 h0) (fun t => by have := lkd_rg (a 15 2) seed n (by omega) t; omega) (by rw [ma'.2.1, ma'.2.2.1, ma'.2.2.2.1]; exact hR)
    rw [ma'.2.1] at e5
    rw [ok1, Option.bind_some, e5, Option.bind_some]
  · rw [if_neg h0, if_neg (show ¬ ii (wl (f 14 = 1) seed n) = 0 by rw [show (0 : Int32) = ii 0 from rfl, ii_eq (by omega) (by omega)]; exact h0), ok1, Option.bind_some, m_no, bn2_some, u1_u1]
    exact ⟨_, l, a', rfl, (u1_ne _ _ (by omega)).trans (u1_eq ..), u1_eq .., mk.o .., ma'⟩
