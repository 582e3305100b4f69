/-! PLAIN 9f: the gallery's odds: the model -/
set_option maxRecDepth 100000
def lcs (n : Int) (u : Int × (Int → Int)) (_ : Int) : Int × (Int → Int) := (u.1 / n, fun t => if t = u.1 % n then u.2 t + 1 else u.2 t)
def lcd (n m code : Int) : Int × (Int → Int) := itr (lcs n) m.toNat 0 (code, fun _ => 0)
theorem lcd_rg (n m code : Int) (t : Int) : 0 ≤ (lcd n m code).2 t ∧ (lcd n m code).2 t ≤ m.toNat := by
  have h : ∀ (d : Nat) (k : Int) (u : Int × (Int → Int)) (c : Int), (∀ t, 0 ≤ u.2 t ∧ u.2 t ≤ c) → ∀ t, 0 ≤ (itr (lcs n) d k u).2 t ∧ (itr (lcs n) d k u).2 t ≤ c + d := by
    intro d
    induction d with
    | zero =>
      intro k u c h t
      have := h t
      show 0 ≤ u.2 t ∧ u.2 t ≤ c + ((0 : Nat) : Int)
      omega
    | succ d ih =>
      intro k u c h t
      have := ih (k + 1) (lcs n u k) (c + 1) (fun t => by
        have := h t
        show 0 ≤ (if t = u.1 % n then u.2 t + 1 else u.2 t) ∧ (if t = u.1 % n then u.2 t + 1 else u.2 t) ≤ c + 1
        split <;> omega) t
      show 0 ≤ (itr (lcs n) d (k + 1) (lcs n u k)).2 t ∧ (itr (lcs n) d (k + 1) (lcs n u k)).2 t ≤ c + ((d + 1 : Nat) : Int)
      omega
  have := h m.toNat 0 (code, fun _ => 0) 0 (fun t => ⟨Int.le_refl 0, Int.le_refl 0⟩) t
  unfold lcd
  omega
def voc (ρ : Int → Int) (p n : Int) (u code : Int) : Int := u + (if itr (bst (lcd (ρ 2) n code).2) (ρ 2 - 1).toNat 1 0 = p then 1 else 0)
def vo (ρ : Int → Int) (p n : Int) : Int := itr (voc ρ p n) ((ρ 2) ^ n.toNat).toNat 0 0
def s_verdictOdds (h : Int) (ρ : Int → Int) (p n : Int) (c : Int32) : Int64 := if wy (h = 1 ∧ 0 ≤ p ∧ p < ρ 2) (0 ≤ n ∧ n ≤ 4) = 0 then frc (vo ρ p n) ((ρ 2) ^ n.toNat) c else Int32.toInt64 (ii (-1))
theorem m_vo106 (x : Nat) (F : Nat → Int) (P : Nat → Option Nat) (A : Nat → Int → Int) (f l : Nat → Int) (a : Nat → Int → Int) (b : fk_M) {p n code up al : Int} (c : Int32) (hR : Rg (a 15) (a 17) (a 19)) (hp0 : rg p) (hn : 0 ≤ n) (hn2 : n ≤ 4) (hc : 0 ≤ code) (hc2 : code ≤ 100000) (h38 : ∀ t, 0 ≤ t → t < 5 → a 38 t = 0) (R : Int32 → Int32 → fk_M → Option (Int64 × fk_M)) : ∃ a', f_X2_verdictOdds_L106 R (some (x + 8)) (ii p) (ii n) c (ii al) (ii up) (ii code) fk_fuel (ii code) (ii 0) (hp x F P A f l a b) = R (ii (voc (a 15) p n up code)) (ii (code + 1)) (hp x F P A f l a' b) ∧ (∀ j, j ≠ 38 → a' j = a j) := by
  have hw := hR.wd
  have hL := loop_ex (fun N (u : Int × (Int → Int)) k (y : Nat → Int → Int) => f_X2_verdictOdds_L106 R (some (x + 8)) (ii p) (ii n) c (ii al) (ii up) (ii code) N (ii u.1) (ii k) (hp x F P A f l y b)) (lcs (a 15 2)) (fun u y => R (ii (up + (if itr (bst u.2) (a 15 2 - 1).toNat 1 0 = p then 1 else 0))) (ii (code + 1)) (hp x F P A f l y b)) (fun u k y => ((0 ≤ u.1 ∧ u.1 ≤ 100000) ∧ ∀ t, 0 ≤ u.2 t ∧ u.2 t ≤ k) ∧ (∀ j, j ≠ 38 → y j = a j) ∧ (∀ t, 0 ≤ t → t < 5 → y 38 t = u.2 t)) (lo := 0) (hi := n) ?_ ?_ n.toNat fk_fuel (code, fun _ => 0) 0 a (by omega) (by omega) (by unfold fk_fuel; omega) ⟨⟨⟨hc, hc2⟩, fun t => ⟨Int.le_refl 0, Int.le_refl 0⟩⟩, fun _ _ => rfl, h38⟩
  · obtain ⟨a', e1, e2⟩ := hL
    exact ⟨a', e1, e2.2.1⟩
  · intro N u y hy
    have e15 := hy.2.1 15 (by omega)
    have e17 := hy.2.1 17 (by omega)
    have e19 := hy.2.1 19 (by omega)
    have e5 := m_verdictOf x F P A f l y b u.2 hy.2.2 (fun t => by have := hy.1.2 t; omega) (by rw [e15, e17, e19]; exact hR)
    rw [e15] at e5
    have hb : 0 ≤ itr (bst u.2) (a 15 2 - 1).toNat 1 0 ∧ itr (bst u.2) (a 15 2 - 1).toNat 1 0 < 5 := by
      refine itr_iv (s := bst u.2) (fun b => 0 ≤ b ∧ b < 5) (lo := 1) (hi := a 15 2) (fun b k h1 h2 h3 => ?_) (a 15 2 - 1).toNat 1 0 (by omega) (by omega) ⟨by omega, by omega⟩
      unfold bst
      split <;> omega
    try dsimp only
    rw [f_X2_verdictOdds_L106]
    simp (disch := first | omega | assumption) only [Option.bind_some, bn2_some, ii_lit, ii_neg, ii_add, ii_sub, ii_mul, ii_le, ii_lt, ii_eq, ii_ite, ii_or, ii_and, ii_bit, ii_rem, ii_div, b0_, b1_, b2_, b3_, true_and, and_true, u1_eq, u1_ne, u2_eq, u2_nk, u2_ni, uP_eq, uP_ne, gk1, gk2, gk3, gk4, gk10, gk11, gk12, gk13, gk14, gk15, gk17, gkr0, gkr7, gkr8, gkr9, gkr16, gkr18, gkr19, gkr5, gkr6, ok0, ok1, ok2, ok3, gl2_0, gl2_1, gl2_2, gl3_0, gl3_1, gl3_2, gm0, gm2, gm3, gm4, gm5, gm6, gm7, gm8, gm9, gm10, gm11, gm13, gm14, gm22, gm23, gm26, gm27, gm28, gm29, gm31, gm32, gm33, gm36, gm37, gm39, gm40, gm41, gm1, gm12, gm15, gm16, gm17, gm18, gm19, gm20, gm21, gm24, gm25, gm30, gm34, gm35, gm38, rk0, sk0, rk9, sk9, rk16, sk16, rk18, sk18, rk19, sk19, rm1, sm1, rm12, sm12, rm15, sm15, rm16, sm16, rm17, sm17, rm18, sm18, rm19, sm19, rm20, sm20, rm21, sm21, rm24, sm24, rm25, sm25, rm30, sm30, rm34, sm34, rm35, sm35, rm38, sm38, pk1, pk2, pk3, pk4, pk10, pk11, pk12, pk13, pk14, pk15, pk17, pkr5, pkr6, pm0, pm2, pm3, pm4, pm5, pm6, pm7, pm8, pm9, pm10, pm11, pm13, pz13_0, pz13_1, pm14, pz14_0, pz14_1, pm22, pm23, pm26, pm27, pm28, pm29, pm31, pm32, pm33, pm36, pm37, pm39, pm40, pm41, pl2_0, pl2_1, pl2_2, pl3_0, pl3_1, pl3_2, e5]
    rw [if_pos (by omega)]
  · intro N u k y k1 k2 hy
    obtain ⟨⟨⟨hu1, hu2⟩, hu3⟩, hy1, hy2⟩ := hy
    have e2 := congrFun (hy1 15 (by omega)) 2
    have hm0 : 0 ≤ u.1 % a 15 2 := Int.emod_nonneg _ (by omega)
    have hm1 : u.1 % a 15 2 < a 15 2 := Int.emod_lt_of_pos _ (by omega)
    have hd0 : 0 ≤ u.1 / a 15 2 := Int.ediv_nonneg hu1 (by omega)
    have hd1 : u.1 / a 15 2 ≤ u.1 := Int.ediv_le_self _ hu1
    refine ⟨u2 y 38 (u.1 % a 15 2) (y 38 (u.1 % a 15 2) + 1), ⟨⟨⟨hd0, Int.le_trans hd1 hu2⟩, fun t => ?_⟩, fun j hj => (u2_nk _ _ _ hj).trans (hy1 j hj), fun t t1 t2 => ?_⟩, ?_⟩
    · have := hu3 t
      show 0 ≤ (if t = u.1 % a 15 2 then u.2 t + 1 else u.2 t) ∧ (if t = u.1 % a 15 2 then u.2 t + 1 else u.2 t) ≤ k + 1
      split <;> omega
    · show u2 y 38 (u.1 % a 15 2) (y 38 (u.1 % a 15 2) + 1) 38 t = (if t = u.1 % a 15 2 then u.2 t + 1 else u.2 t)
      by_cases ht : t = u.1 % a 15 2
      · rw [if_pos ht, ht, u2_eq, hy2 _ hm0 (by omega)]
      · rw [if_neg ht, u2_ni _ _ _ ht, hy2 t t1 t2]
    · try dsimp only
      rw [f_X2_verdictOdds_L106]
      simp (disch := first | omega | assumption) only [Option.bind_some, bn2_some, ii_lit, ii_neg, ii_add, ii_sub, ii_mul, ii_le, ii_lt, ii_eq, ii_ite, ii_or, ii_and, ii_bit, ii_rem, ii_div, b0_, b1_, b2_, b3_, true_and, and_true, u1_eq, u1_ne, u2_eq, u2_nk, u2_ni, uP_eq, uP_ne, gk1, gk2, gk3, gk4, gk10, gk11, gk12, gk13, gk14, gk15, gk17, gkr0, gkr7, gkr8, gkr9, gkr16, gkr18, gkr19, gkr5, gkr6, ok0, ok1, ok2, ok3, gl2_0, gl2_1, gl2_2, gl3_0, gl3_1, gl3_2, gm0, gm2, gm3, gm4, gm5, gm6, gm7, gm8, gm9, gm10, gm11, gm13, gm14, gm22, gm23, gm26, gm27, gm28, gm29, gm31, gm32, gm33, gm36, gm37, gm39, gm40, gm41, gm1, gm12, gm15, gm16, gm17, gm18, gm19, gm20, gm21, gm24, gm25, gm30, gm34, gm35, gm38, rk0, sk0, rk9, sk9, rk16, sk16, rk18, sk18, rk19, sk19, rm1, sm1, rm12, sm12, rm15, sm15, rm16, sm16, rm17, sm17, rm18, sm18, rm19, sm19, rm20, sm20, rm21, sm21, rm24, sm24, rm25, sm25, rm30, sm30, rm34, sm34, rm35, sm35, rm38, sm38, pk1, pk2, pk3, pk4, pk10, pk11, pk12, pk13, pk14, pk15, pk17, pkr5, pkr6, pm0, pm2, pm3, pm4, pm5, pm6, pm7, pm8, pm9, pm10, pm11, pm13, pz13_0, pz13_1, pm14, pz14_0, pz14_1, pm22, pm23, pm26, pm27, pm28, pm29, pm31, pm32, pm33, pm36, pm37, pm39, pm40, pm41, pl2_0, pl2_1, pl2_2, pl3_0, pl3_1, pl3_2, e2]
      rw [if_neg (by omega), if_neg (by omega), if_neg (by omega)]
      rfl
theorem m_vo79 (x : Nat) (F : Nat → Int) (P : Nat → Option Nat) (A : Nat → Int → Int) (f l : Nat → Int) (a : Nat → Int → Int) (b : fk_M) {p n code up al : Int} (c : Int32) (hR : Rg (a 15) (a 17) (a 19)) (hp0 : rg p) (hn : 0 ≤ n) (hn2 : n ≤ 4) (hc : 0 ≤ code) (hc2 : code ≤ 100000) (R : Int32 → Int32 → fk_M → Option (Int64 × fk_M)) : ∃ a', f_X2_verdictOdds_L79 R (some (x + 8)) (ii p) (ii n) c (ii al) (ii up) (ii code) fk_fuel (ii 0) (hp x F P A f l a b) = R (ii (voc (a 15) p n up code)) (ii (code + 1)) (hp x F P A f l a' b) ∧ (∀ j, j ≠ 38 → a' j = a j) := by
  have hL := loop_ex (fun N (_ : Unit) k (y : Nat → Int → Int) => f_X2_verdictOdds_L79 R (some (x + 8)) (ii p) (ii n) c (ii al) (ii up) (ii code) N (ii k) (hp x F P A f l y b)) (fun u k => u) (fun u y => f_X2_verdictOdds_L106 R (some (x + 8)) (ii p) (ii n) c (ii al) (ii up) (ii code) fk_fuel (ii code) (ii 0) (hp x F P A f l y b)) (fun u k y => (∀ j, j ≠ 38 → y j = a j) ∧ (∀ t, 0 ≤ t → t < k → y 38 t = 0)) (lo := 0) (hi := 5) ?_ ?_ 5 fk_fuel () 0 a (by omega) (by omega) (by unfold fk_fuel; omega) ⟨fun _ _ => rfl, fun t h1 h2 => by omega⟩
  · obtain ⟨a1, g1, g2, g3⟩ := hL
    have e15 := g2 15 (by omega)
    have e17 := g2 17 (by omega)
    have e19 := g2 19 (by omega)
    obtain ⟨a', k1, k2⟩ := m_vo106 x F P A f l a1 b (p := p) (n := n) (code := code) (up := up) (al := al) c (by rw [e15, e17, e19]; exact hR) hp0 hn hn2 hc hc2 g3 R
    rw [e15] at k1
    exact ⟨a', g1.trans k1, fun j hj => (k2 j hj).trans (g2 j hj)⟩
  · intro N u y hy
    try dsimp only
    rw [f_X2_verdictOdds_L79]
    simp (disch := first | omega | assumption) only [Option.bind_some, bn2_some, ii_lit, ii_neg, ii_add, ii_sub, ii_mul, ii_le, ii_lt, ii_eq, ii_ite, ii_or, ii_and, ii_bit, ii_rem, ii_div, b0_, b1_, b2_, b3_, true_and, and_true, u1_eq, u1_ne, u2_eq, u2_nk, u2_ni, uP_eq, uP_ne, gk1, gk2, gk3, gk4, gk10, gk11, gk12, gk13, gk14, gk15, gk17, gkr0, gkr7, gkr8, gkr9, gkr16, gkr18, gkr19, gkr5, gkr6, ok0, ok1, ok2, ok3, gl2_0, gl2_1, gl2_2, gl3_0, gl3_1, gl3_2, gm0, gm2, gm3, gm4, gm5, gm6, gm7, gm8, gm9, gm10, gm11, gm13, gm14, gm22, gm23, gm26, gm27, gm28, gm29, gm31, gm32, gm33, gm36, gm37, gm39, gm40, gm41, gm1, gm12, gm15, gm16, gm17, gm18, gm19, gm20, gm21, gm24, gm25, gm30, gm34, gm35, gm38, rk0, sk0, rk9, sk9, rk16, sk16, rk18, sk18, rk19, sk19, rm1, sm1, rm12, sm12, rm15, sm15, rm16, sm16, rm17, sm17, rm18, sm18, rm19, sm19, rm20, sm20, rm21, sm21, rm24, sm24, rm25, sm25, rm30, sm30, rm34, sm34, rm35, sm35, rm38, sm38, pk1, pk2, pk3, pk4, pk10, pk11, pk12, pk13, pk14, pk15, pk17, pkr5, pkr6, pm0, pm2, pm3, pm4, pm5, pm6, pm7, pm8, pm9, pm10, pm11, pm13, pz13_0, pz13_1, pm14, pz14_0, pz14_1, pm22, pm23, pm26, pm27, pm28, pm29, pm31, pm32, pm33, pm36, pm37, pm39, pm40, pm41, pl2_0, pl2_1, pl2_2, pl3_0, pl3_1, pl3_2]
    rw [if_pos (by omega)]
  · intro N u k y k1 k2 hy
    refine ⟨u2 y 38 k 0, ⟨fun j hj => (u2_nk _ _ _ hj).trans (hy.1 j hj), fun t h1 h2 => ?_⟩, ?_⟩
    · by_cases ht : t = k
      · rw [ht, u2_eq]
      · rw [u2_ni _ _ _ ht]
        exact hy.2 t h1 (by omega)
    · skip
      try dsimp only
      rw [f_X2_verdictOdds_L79]
      simp (disch := first | omega | assumption) only [Option.bind_some, bn2_some, ii_lit, ii_neg, ii_add, ii_sub, ii_mul, ii_le, ii_lt, ii_eq, ii_ite, ii_or, ii_and, ii_bit, ii_rem, ii_div, b0_, b1_, b2_, b3_, true_and, and_true, u1_eq, u1_ne, u2_eq, u2_nk, u2_ni, uP_eq, uP_ne, gk1, gk2, gk3, gk4, gk10, gk11, gk12, gk13, gk14, gk15, gk17, gkr0, gkr7, gkr8, gkr9, gkr16, gkr18, gkr19, gkr5, gkr6, ok0, ok1, ok2, ok3, gl2_0, gl2_1, gl2_2, gl3_0, gl3_1, gl3_2, gm0, gm2, gm3, gm4, gm5, gm6, gm7, gm8, gm9, gm10, gm11, gm13, gm14, gm22, gm23, gm26, gm27, gm28, gm29, gm31, gm32, gm33, gm36, gm37, gm39, gm40, gm41, gm1, gm12, gm15, gm16, gm17, gm18, gm19, gm20, gm21, gm24, gm25, gm30, gm34, gm35, gm38, rk0, sk0, rk9, sk9, rk16, sk16, rk18, sk18, rk19, sk19, rm1, sm1, rm12, sm12, rm15, sm15, rm16, sm16, rm17, sm17, rm18, sm18, rm19, sm19, rm20, sm20, rm21, sm21, rm24, sm24, rm25, sm25, rm30, sm30, rm34, sm34, rm35, sm35, rm38, sm38, pk1, pk2, pk3, pk4, pk10, pk11, pk12, pk13, pk14, pk15, pk17, pkr5, pkr6, pm0, pm2, pm3, pm4, pm5, pm6, pm7, pm8, pm9, pm10, pm11, pm13, pz13_0, pz13_1, pm14, pz14_0, pz14_1, pm22, pm23, pm26, pm27, pm28, pm29, pm31, pm32, pm33, pm36, pm37, pm39, pm40, pm41, pl2_0, pl2_1, pl2_2, pl3_0, pl3_1, pl3_2]
      rw [if_neg (by omega)]
theorem pn_rg {r n : Int} (h0 : 1 ≤ r) (h1 : r ≤ 5) (h2 : 0 ≤ n) (h3 : n ≤ 4) : 1 ≤ r ^ n.toNat ∧ r ^ n.toNat ≤ 625 := by
  have a1 : r = 1 ∨ r = 2 ∨ r = 3 ∨ r = 4 ∨ r = 5 := by omega
  have a2 : n = 0 ∨ n = 1 ∨ n = 2 ∨ n = 3 ∨ n = 4 := by omega
  rcases a1 with rfl | rfl | rfl | rfl | rfl <;> rcases a2 with rfl | rfl | rfl | rfl | rfl <;> decide
theorem vo_rg {ρ τ σ : Int → Int} (hR : Rg ρ τ σ) (p : Int) {n : Int} (h2 : 0 ≤ n) (h3 : n ≤ 4) : 0 ≤ vo ρ p n ∧ vo ρ p n ≤ 625 := by
  have hw := hR.wd
  have hpn := pn_rg (r := ρ 2) (n := n) (by omega) (by omega) h2 h3
  have h : ∀ (d : Nat) (k u : Int), u ≤ itr (voc ρ p n) d k u ∧ itr (voc ρ p n) d k u ≤ u + d := by
    intro d
    induction d with
    | zero => intro k u; show u ≤ u ∧ u ≤ u + ((0 : Nat) : Int); omega
    | succ d ih =>
      intro k u
      have := ih (k + 1) (voc ρ p n u k)
      have h2 : u ≤ voc ρ p n u k ∧ voc ρ p n u k ≤ u + 1 := by
        unfold voc
        split <;> omega
      show u ≤ itr (voc ρ p n) d (k + 1) (voc ρ p n u k) ∧ itr (voc ρ p n) d (k + 1) (voc ρ p n u k) ≤ u + ((d + 1 : Nat) : Int)
      omega
  have := h ((ρ 2) ^ n.toNat).toNat 0 0
  unfold vo
  omega
theorem m_vo69 (x : Nat) (F : Nat → Int) (P : Nat → Option Nat) (A : Nat → Int → Int) (f l : Nat → Int) (a : Nat → Int → Int) (b : fk_M) {p n : Int} (c : Int32) (hR : Rg (a 15) (a 17) (a 19)) (hp0 : rg p) (hn : 0 ≤ n) (hn2 : n ≤ 4) : ∃ a', f_X2_verdictOdds_L69 (some (x + 8)) (ii p) (ii n) c (ii ((a 15 2) ^ n.toNat)) fk_fuel (ii 0) (ii 0) (hp x F P A f l a b) = some (frc (vo (a 15) p n) ((a 15 2) ^ n.toNat) c, hp x F P A f l a' b) ∧ (∀ j, j ≠ 38 → a' j = a j) := by
  have hw := hR.wd
  have hpn := pn_rg (r := a 15 2) (n := n) (by omega) (by omega) hn hn2
  have hvr := vo_rg hR p hn hn2
  have hL := loop_ex (fun N u k (y : Nat → Int → Int) => f_X2_verdictOdds_L69 (some (x + 8)) (ii p) (ii n) c (ii ((a 15 2) ^ n.toNat)) N (ii u) (ii k) (hp x F P A f l y b)) (voc (a 15) p n) (fun u y => (f_X2_lowest (Int32.toInt64 (ii u)) (Int32.toInt64 (ii ((a 15 2) ^ n.toNat))) c (hp x F P A f l y b)).bind fun z1 => some (z1, hp x F P A f l y b)) (fun u k y => (∀ j, j ≠ 38 → y j = a j)) (lo := 0) (hi := (a 15 2) ^ n.toNat) ?_ ?_ ((a 15 2) ^ n.toNat).toNat fk_fuel 0 0 a (by omega) (by omega) (by unfold fk_fuel; omega) (fun _ _ => rfl)
  · obtain ⟨a', e1, e2⟩ := hL
    refine ⟨a', e1.trans ?_, e2⟩
    have e3 : itr (voc (a 15) p n) ((a 15 2) ^ n.toNat).toNat 0 0 = vo (a 15) p n := rfl
    rw [e3, jj_of (by omega), jj_of (by omega), m_low _ c hvr.1 (by omega) (by omega) (by omega), Option.bind_some]
  · intro N u y hy
    try dsimp only
    rw [f_X2_verdictOdds_L69, if_pos (Int32.le_refl _)]
  · intro N u k y k1 k2 hy
    have e15 := hy 15 (by omega)
    have e17 := hy 17 (by omega)
    have e19 := hy 19 (by omega)
    obtain ⟨a', g1, g2⟩ := m_vo79 x F P A f l y b (p := p) (n := n) (code := k) (up := u) (al := (a 15 2) ^ n.toNat) c (by rw [e15, e17, e19]; exact hR) hp0 hn hn2 k1 (by omega) (f_X2_verdictOdds_L69 (some (x + 8)) (ii p) (ii n) c (ii ((a 15 2) ^ n.toNat)) N)
    rw [e15] at g1
    refine ⟨a', fun j hj => (g2 j hj).trans (hy j hj), ?_⟩
    try dsimp only
    rw [f_X2_verdictOdds_L69, if_neg (show ¬ ii ((a 15 2) ^ n.toNat) ≤ ii k by rw [ii_le (by omega) (by omega)]; omega)]
    exact g1
theorem pw_itr (r : Int) : ∀ (d : Nat) (k u : Int), itr (fun u (_ : Int) => u * r) d k u = u * r ^ d := by
  intro d
  induction d with
  | zero => intro k u; show u = u * r ^ 0; rw [Int.pow_zero, Int.mul_one]
  | succ d ih =>
    intro k u
    show itr (fun u (_ : Int) => u * r) d (k + 1) (u * r) = u * r ^ (d + 1)
    rw [ih, Int.pow_succ, Int.mul_assoc, Int.mul_comm r (r ^ d)]
theorem m_verdictOdds (x : Nat) (F : Nat → Int) (P : Nat → Option Nat) (A : Nat → Int → Int) (f l : Nat → Int) (a : Nat → Int → Int) (b : fk_M) {p n : Int} (c : Int32) (hp0 : rg p) (hn : rg n) (hM : Hm f a) : ML x F P A f l a b (s_verdictOdds (f 14) (a 15) p n c) (wy (f 14 = 1 ∧ 0 ≤ p ∧ p < a 15 2) (0 ≤ n ∧ n ≤ 4)) (f_X2_verdictOdds (some (x + 8)) (ii p) (ii n) c (hp x F P A f l a b)) := by
  unfold f_X2_verdictOdds s_verdictOdds
  have hM' : Hm (fo f 0) a := hM
  have hy := wy_rg (f 14 = 1 ∧ 0 ≤ p ∧ p < a 15 2) (0 ≤ n ∧ n ≤ 4)
  have e14 : fo f 0 14 = f 14 := rfl
  have e5 : f_X2_in (ii n) 0 4 (hp x F P A (fo f 0) l a b) = some (ii (if 0 ≤ n ∧ n ≤ 4 then 1 else 0)) := m_in _ (lo := 0) (hi := 4) hn (by omega) (by omega)
  rw [ok1, Option.bind_some, m_good, Option.bind_some, ok1, Option.bind_some, m_isPair _ _ _ _ _ _ _ _ hp0 hM', Option.bind_some, e5, Option.bind_some, Option.bind_some, m_why _ _ (by split <;> omega) (by split <;> omega), Option.bind_some, e14]
  simp only [b1_]
  by_cases h0 : wy (f 14 = 1 ∧ 0 ≤ p ∧ p < a 15 2) (0 ≤ n ∧ n ≤ 4) = 0
  · obtain ⟨⟨h1, h2, h3⟩, h4, h5⟩ := wy_0.mp h0
    obtain h | ⟨-, hR⟩ := hM
    · omega
    have hw := hR.wd
    rw [h0, if_pos (show ii 0 = 0 by decide), if_pos rfl]
    obtain ⟨a', g1, g2⟩ := m_vo69 x F P A (fo f 0) l a b (p := p) (n := n) c hR hp0 h4 h5
    refine ⟨fo f 0, l, a', ?_, (u1_ne _ _ (by omega)).trans (u1_eq ..), u1_eq .., mk.o .., ma.k 38 (by omega) g2⟩
    have hL := loop_i0 (fun N u k => f_X2_verdictOdds_L40 (some (x + 8)) (ii p) (ii n) c (hp x F P A (fo f 0) l a b) N (ii u) (ii k)) (fun u (_ : Int) => u * a 15 2) (fun u => f_X2_verdictOdds_L69 (some (x + 8)) (ii p) (ii n) c (ii u) fk_fuel (ii 0) (ii 0) (hp x F P A (fo f 0) l a b)) (lo := 0) (hi := n) ?_ ?_ n.toNat fk_fuel 1 0 (by omega) (by omega) (by unfold fk_fuel; omega)
    · refine Eq.trans hL ?_
      rw [pw_itr, Int.one_mul]
      exact g1
    · intros
      try dsimp only
      rw [f_X2_verdictOdds_L40]
      simp (disch := first | omega | assumption) only [Option.bind_some, bn2_some, ii_lit, ii_neg, ii_add, ii_sub, ii_mul, ii_le, ii_lt, ii_eq, ii_ite, ii_or, ii_and, ii_bit, ii_rem, ii_div, b0_, b1_, b2_, b3_, true_and, and_true, u1_eq, u1_ne, u2_eq, u2_nk, u2_ni, uP_eq, uP_ne, gk1, gk2, gk3, gk4, gk10, gk11, gk12, gk13, gk14, gk15, gk17, gkr0, gkr7, gkr8, gkr9, gkr16, gkr18, gkr19, gkr5, gkr6, ok0, ok1, ok2, ok3, gl2_0, gl2_1, gl2_2, gl3_0, gl3_1, gl3_2, gm0, gm2, gm3, gm4, gm5, gm6, gm7, gm8, gm9, gm10, gm11, gm13, gm14, gm22, gm23, gm26, gm27, gm28, gm29, gm31, gm32, gm33, gm36, gm37, gm39, gm40, gm41, gm1, gm12, gm15, gm16, gm17, gm18, gm19, gm20, gm21, gm24, gm25, gm30, gm34, gm35, gm38, rk0, sk0, rk9, sk9, rk16, sk16, rk18, sk18, rk19, sk19, rm1, sm1, rm12, sm12, rm15, sm15, rm16, sm16, rm17, sm17, rm18, sm18, rm19, sm19, rm20, sm20, rm21, sm21, rm24, sm24, rm25, sm25, rm30, sm30, rm34, sm34, rm35, sm35, rm38, sm38, pk1, pk2, pk3, pk4, pk10, pk11, pk12, pk13, pk14, pk15, pk17, pkr5, pkr6, pm0, pm2, pm3, pm4, pm5, pm6, pm7, pm8, pm9, pm10, pm11, pm13, pz13_0, pz13_1, pm14, pz14_0, pz14_1, pm22, pm23, pm26, pm27, pm28, pm29, pm31, pm32, pm33, pm36, pm37, pm39, pm40, pm41, pl2_0, pl2_1, pl2_2, pl3_0, pl3_1, pl3_2]
      rw [if_pos (by omega)]
    · intro N u k k1 k2
      try dsimp only
      rw [f_X2_verdictOdds_L40]
      simp (disch := first | omega | assumption) only [Option.bind_some, bn2_some, ii_lit, ii_neg, ii_add, ii_sub, ii_mul, ii_le, ii_lt, ii_eq, ii_ite, ii_or, ii_and, ii_bit, ii_rem, ii_div, b0_, b1_, b2_, b3_, true_and, and_true, u1_eq, u1_ne, u2_eq, u2_nk, u2_ni, uP_eq, uP_ne, gk1, gk2, gk3, gk4, gk10, gk11, gk12, gk13, gk14, gk15, gk17, gkr0, gkr7, gkr8, gkr9, gkr16, gkr18, gkr19, gkr5, gkr6, ok0, ok1, ok2, ok3, gl2_0, gl2_1, gl2_2, gl3_0, gl3_1, gl3_2, gm0, gm2, gm3, gm4, gm5, gm6, gm7, gm8, gm9, gm10, gm11, gm13, gm14, gm22, gm23, gm26, gm27, gm28, gm29, gm31, gm32, gm33, gm36, gm37, gm39, gm40, gm41, gm1, gm12, gm15, gm16, gm17, gm18, gm19, gm20, gm21, gm24, gm25, gm30, gm34, gm35, gm38, rk0, sk0, rk9, sk9, rk16, sk16, rk18, sk18, rk19, sk19, rm1, sm1, rm12, sm12, rm15, sm15, rm16, sm16, rm17, sm17, rm18, sm18, rm19, sm19, rm20, sm20, rm21, sm21, rm24, sm24, rm25, sm25, rm30, sm30, rm34, sm34, rm35, sm35, rm38, sm38, pk1, pk2, pk3, pk4, pk10, pk11, pk12, pk13, pk14, pk15, pk17, pkr5, pkr6, pm0, pm2, pm3, pm4, pm5, pm6, pm7, pm8, pm9, pm10, pm11, pm13, pz13_0, pz13_1, pm14, pz14_0, pz14_1, pm22, pm23, pm26, pm27, pm28, pm29, pm31, pm32, pm33, pm36, pm37, pm39, pm40, pm41, pl2_0, pl2_1, pl2_2, pl3_0, pl3_1, pl3_2]
      rw [if_neg (by omega)]
  · rw [if_neg h0, if_neg (show ¬ ii (wy (f 14 = 1 ∧ 0 ≤ p ∧ p < a 15 2) (0 ≤ n ∧ n ≤ 4)) = 0 by rw [show (0 : Int32) = ii 0 from rfl, ii_eq (by omega) (by omega)]; exact h0), Option.bind_some, m_no, bn2_some, u1_u1]
    exact ML.of l rfl
