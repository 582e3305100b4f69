/-! PLAIN 9c: longs -/
set_option maxRecDepth 100000
def jj (a : Int) : Int64 := Int64.ofInt a
abbrev rj (a : Int) : Prop := -9223372036854775808 ≤ a ∧ a ≤ 9223372036854775807
theorem jj_toInt {a : Int} (h : rj a) : (jj a).toInt = a := by
  unfold jj
  rw [Int64.toInt_ofInt]
  have hz : (Int64.size : Int) = 18446744073709551616 := rfl
  exact Int.bmod_eq_of_le (by rw [hz]; omega) (by rw [hz]; omega)
theorem jj_add (a b : Int) : jj a + jj b = jj (a + b) := (Int64.ofInt_add a b).symm
theorem jj_sub (a b : Int) : jj a - jj b = jj (a - b) := (Int64.ofInt_sub a b).symm
theorem jj_mul (a b : Int) : jj a * jj b = jj (a * b) := (Int64.ofInt_mul a b).symm
theorem jj_lit (n : Nat) : (@OfNat.ofNat Int64 n _) = jj (@OfNat.ofNat Int n _) := by
  show Int64.ofNat n = Int64.ofInt (Int.ofNat n)
  rfl
theorem jj_eq {a b : Int} (ha : rj a) (hb : rj b) : (jj a = jj b) = (a = b) := by
  apply propext
  constructor
  · intro h
    have := congrArg Int64.toInt h
    rwa [jj_toInt ha, jj_toInt hb] at this
  · rintro rfl; rfl
theorem jj_of {a : Int} (h : rg a) : Int32.toInt64 (ii a) = jj a := by
  apply Int64.toInt.inj
  rw [Int32.toInt_toInt64, ii_toInt h, jj_toInt ⟨by omega, by omega⟩]
theorem jj_to {a : Int} (h : rg a) : Int64.toInt32 (jj a) = ii a := by
  apply Int32.toInt.inj
  rw [Int64.toInt_toInt32, jj_toInt ⟨by omega, by omega⟩, ii_toInt h]
  exact Int.bmod_eq_of_le (by omega) (by omega)
theorem jj_div {a b : Int} (ha : 0 ≤ a) (ha2 : a ≤ 9223372036854775807) (hb : 0 < b) (hb2 : b ≤ 9223372036854775807) : jj a / jj b = jj (a / b) := by
  apply Int64.toInt.inj
  have h1 : a / b ≤ a := Int.ediv_le_self _ ha
  have h2 : 0 ≤ a / b := Int.ediv_nonneg ha (by omega)
  rw [Int64.toInt_div, jj_toInt ⟨by omega, by omega⟩, jj_toInt ⟨by omega, by omega⟩, jj_toInt ⟨by omega, by omega⟩, Int.tdiv_eq_ediv_of_nonneg ha]
  exact Int.bmod_eq_of_le (by omega) (by omega)
theorem jj_rem {a b : Int} (ha : 0 ≤ a) (ha2 : a ≤ 9223372036854775807) (hb : 0 < b) (hb2 : b ≤ 9223372036854775807) : l_rem (jj a) (jj b) = jj (a % b) := by
  show jj a - jj a / jj b * jj b = _
  rw [jj_div ha ha2 hb hb2, jj_mul, jj_sub]
  congr 1
  have := Int.emod_add_mul_ediv a b
  have h2 := Int.mul_comm b (a / b)
  omega
theorem k_drawOf (m : fk_M) {s : Int} (h0 : 0 ≤ s) (h1 : s ≤ 65536) : f_X1_drawOf (ii s) m = some (ii (dr s)) := by
  unfold f_X1_drawOf
  have hd := dr_rg s
  have ed : (75 * s + 74) % 65537 = dr s := rfl
  simp (disch := omega) only [jj_lit, jj_of, jj_mul, jj_add, jj_rem, ed, jj_to]
/-! draws -/
def dws (ρ σ : Int → Int) (p : Int) (u : Int × Int) (k : Int) : Int × Int := (dr u.1, bh ρ p u.2 (σ (5 + p)) (ρ (13 + p)) (σ 35 + k) (if ρ 1 ≤ dr u.1 % 100 then 0 else 1))
def s_drawn (h : Int) (ρ σ : Int → Int) (p seed n : Int) : Int := if wy (h = 1 ∧ 0 ≤ p ∧ p < ρ 2) ((0 ≤ seed ∧ seed ≤ 65536) ∧ 0 ≤ n ∧ n ≤ 60) = 0 then (itr (dws ρ σ p) n.toNat 1 (seed, σ p)).2 else -1
theorem mb_drawn (x : Nat) (F : Nat → Int) (P : Nat → Option Nat) (A : Nat → Int → Int) (f l : Nat → Int) (a : Nat → Int → Int) (b : fk_M) {p seed n : Int} (hR : Rg (a 15) (a 17) (a 19)) (h0 : 0 ≤ p) (h1 : p < a 15 2) (hs : 0 ≤ seed) (hs2 : seed ≤ 65536) (hn : 0 ≤ n) (hn2 : n ≤ 60) : f_X2_drawn_L67 (some (x + 8)) (ii p) (ii n) (hp x F P A f l a b) fk_fuel (ii seed) (ii (a 19 p)) (ii 1) = some (ii (itr (dws (a 15) (a 19) p) n.toNat 1 (seed, a 19 p)).2, (hp x F P A f l a b)) := by
  have hw := hR.wd
  have hq := hR.pr h0 h1
  refine (loop_it (fun N (u : Int × Int) k => f_X2_drawn_L67 (some (x + 8)) (ii p) (ii n) (hp x F P A f l a b) N (ii u.1) (ii u.2) (ii k)) (dws (a 15) (a 19) p) (fun u => some (ii u.2, (hp x F P A f l a b))) (fun u k => (0 ≤ u.1 ∧ u.1 ≤ 65536) ∧ (0 ≤ u.2 ∧ u.2 ≤ a 15 0)) (lo := 1) (hi := n + 1) ?_ ?_ n.toNat fk_fuel (seed, a 19 p) 1 (by omega) (by omega) (by unfold fk_fuel; omega) ⟨⟨hs, hs2⟩, hq.1.2.2.2.2.1⟩).1
  · intros
    try dsimp only
    rw [f_X2_drawn_L67]
    simp (disch := first | omega | assumption) only [Option.bind_some, bn2_some, ii_lit, ii_neg, ii_add, ii_sub, ii_mul, ii_le, ii_lt, ii_eq, ii_ite, ii_or, ii_and, ii_bit, ii_rem, ii_div, b0_, b1_, b2_, b3_, true_and, and_true, u1_eq, u1_ne, u2_eq, u2_nk, u2_ni, uP_eq, uP_ne, gk1, gk2, gk3, gk4, gk10, gk11, gk12, gk13, gk14, gk15, gk17, gkr0, gkr7, gkr8, gkr9, gkr16, gkr18, gkr19, gkr5, gkr6, ok0, ok1, ok2, ok3, gl2_0, gl2_1, gl2_2, gl3_0, gl3_1, gl3_2, gm0, gm2, gm3, gm4, gm5, gm6, gm7, gm8, gm9, gm10, gm11, gm13, gm14, gm22, gm23, gm26, gm27, gm28, gm29, gm31, gm32, gm33, gm36, gm37, gm39, gm40, gm41, gm1, gm12, gm15, gm16, gm17, gm18, gm19, gm20, gm21, gm24, gm25, gm30, gm34, gm35, gm38, rk0, sk0, rk9, sk9, rk16, sk16, rk18, sk18, rk19, sk19, rm1, sm1, rm12, sm12, rm15, sm15, rm16, sm16, rm17, sm17, rm18, sm18, rm19, sm19, rm20, sm20, rm21, sm21, rm24, sm24, rm25, sm25, rm30, sm30, rm34, sm34, rm35, sm35, rm38, sm38, pk1, pk2, pk3, pk4, pk10, pk11, pk12, pk13, pk14, pk15, pk17, pkr5, pkr6, pm0, pm2, pm3, pm4, pm5, pm6, pm7, pm8, pm9, pm10, pm11, pm13, pz13_0, pz13_1, pm14, pz14_0, pz14_1, pm22, pm23, pm26, pm27, pm28, pm29, pm31, pm32, pm33, pm36, pm37, pm39, pm40, pm41, pl2_0, pl2_1, pl2_2, pl3_0, pl3_1, pl3_2]
    rw [if_pos (by omega)]
  · intro N u k k1 k2 hu
    obtain ⟨⟨hu1, hu2⟩, hu3, hu4⟩ := hu
    have hd := dr_rg u.1
    have ed : (75 * u.1 + 74) % 65537 = dr u.1 := rfl
    have hm0 : 0 ≤ dr u.1 % 100 ∧ dr u.1 % 100 < 100 := by omega
    refine ⟨⟨hd, bh_rg (by omega) hu3 hu4⟩, ?_⟩
    have e1 := m_behind x F P A f l a b (p := p) (v := u.2) (s := a 19 (5 + p)) (e := a 15 (13 + p)) (g := a 19 35 + k) (d := if a 15 1 ≤ dr u.1 % 100 then 0 else 1) h0 (by omega) (by omega) (by omega) hu3 hu4 (by omega) (by omega) (by omega) (by omega) (by omega) (by omega) (by omega) (by omega) (by split <;> omega) (by split <;> omega)
    try dsimp only
    rw [f_X2_drawn_L67]
    simp (disch := first | omega | assumption) only [Option.bind_some, bn2_some, ii_lit, ii_neg, ii_add, ii_sub, ii_mul, ii_le, ii_lt, ii_eq, ii_ite, ii_or, ii_and, ii_bit, ii_rem, ii_div, b0_, b1_, b2_, b3_, true_and, and_true, u1_eq, u1_ne, u2_eq, u2_nk, u2_ni, uP_eq, uP_ne, gk1, gk2, gk3, gk4, gk10, gk11, gk12, gk13, gk14, gk15, gk17, gkr0, gkr7, gkr8, gkr9, gkr16, gkr18, gkr19, gkr5, gkr6, ok0, ok1, ok2, ok3, gl2_0, gl2_1, gl2_2, gl3_0, gl3_1, gl3_2, gm0, gm2, gm3, gm4, gm5, gm6, gm7, gm8, gm9, gm10, gm11, gm13, gm14, gm22, gm23, gm26, gm27, gm28, gm29, gm31, gm32, gm33, gm36, gm37, gm39, gm40, gm41, gm1, gm12, gm15, gm16, gm17, gm18, gm19, gm20, gm21, gm24, gm25, gm30, gm34, gm35, gm38, rk0, sk0, rk9, sk9, rk16, sk16, rk18, sk18, rk19, sk19, rm1, sm1, rm12, sm12, rm15, sm15, rm16, sm16, rm17, sm17, rm18, sm18, rm19, sm19, rm20, sm20, rm21, sm21, rm24, sm24, rm25, sm25, rm30, sm30, rm34, sm34, rm35, sm35, rm38, sm38, pk1, pk2, pk3, pk4, pk10, pk11, pk12, pk13, pk14, pk15, pk17, pkr5, pkr6, pm0, pm2, pm3, pm4, pm5, pm6, pm7, pm8, pm9, pm10, pm11, pm13, pz13_0, pz13_1, pm14, pz14_0, pz14_1, pm22, pm23, pm26, pm27, pm28, pm29, pm31, pm32, pm33, pm36, pm37, pm39, pm40, pm41, pl2_0, pl2_1, pl2_2, pl3_0, pl3_1, pl3_2, ed, e1]
    rw [if_neg (by omega)]
    rfl
theorem m_drawn (x : Nat) (F : Nat → Int) (P : Nat → Option Nat) (A : Nat → Int → Int) (f l : Nat → Int) (a : Nat → Int → Int) (b : fk_M) {p seed n : Int} (hp0 : rg p) (hs : rg seed) (hn : rg n) (hM : Hm f a) : MO x F P A f l a b (s_drawn (f 14) (a 15) (a 19) p seed n) (wy (f 14 = 1 ∧ 0 ≤ p ∧ p < a 15 2) ((0 ≤ seed ∧ seed ≤ 65536) ∧ 0 ≤ n ∧ n ≤ 60)) (f_X2_drawn (some (x + 8)) (ii p) (ii seed) (ii n) (hp x F P A f l a b)) := by
  refine MO.of ?_
  unfold f_X2_drawn s_drawn
  have hM' : Hm (fo f 0) a := hM
  have e14 : fo f 0 14 = f 14 := rfl
  have e5 : f_X2_in (ii seed) 0 65536 (hp x F P A (fo f 0) l a b) = some (ii (if 0 ≤ seed ∧ seed ≤ 65536 then 1 else 0)) := m_in _ (lo := 0) (hi := 65536) hs (by omega) (by omega)
  have e6 : f_X2_in (ii n) 0 60 (hp x F P A (fo f 0) l a b) = some (ii (if 0 ≤ n ∧ n ≤ 60 then 1 else 0)) := m_in _ (lo := 0) (hi := 60) hn (by omega) (by omega)
  rw [ok1, Option.bind_some, m_good, Option.bind_some, ok1, Option.bind_some, m_isPair _ _ _ _ _ _ _ _ hp0 hM', Option.bind_some, e5, e6, e14, Option.bind_some]
  have z10 : ((1 : Int) = 0) = False := by decide
  have z20 : ((2 : Int) = 0) = False := by decide
  have z00 : ((0 : Int) = 0) = True := by decide
  by_cases c1 : (f 14 = 1 ∧ 0 ≤ p ∧ p < a 15 2)
  · obtain h | ⟨-, hR⟩ := hM
    · omega
    have hq := hR.pr c1.2.1 c1.2.2
    by_cases c2 : 0 ≤ seed ∧ seed ≤ 65536
    · by_cases c3 : 0 ≤ n ∧ n ≤ 60
      · have hwy : wy (f 14 = 1 ∧ 0 ≤ p ∧ p < a 15 2) ((0 ≤ seed ∧ seed ≤ 65536) ∧ 0 ≤ n ∧ n ≤ 60) = 0 := wy_0.mpr ⟨c1, c2, c3⟩
        have e8 := mb_drawn x F P A (fo f 0) l a b hR c1.2.1 c1.2.2 c2.1 c2.2 c3.1 c3.2
        rw [hwy, if_pos c1, if_pos c2, if_pos c3]
        simp (disch := first | omega | assumption) only [Option.bind_some, bn2_some, ii_lit, ii_neg, ii_add, ii_sub, ii_mul, ii_le, ii_lt, ii_eq, ii_ite, ii_or, ii_and, ii_bit, ii_rem, ii_div, b0_, b1_, b2_, b3_, true_and, and_true, u1_eq, u1_ne, u2_eq, u2_nk, u2_ni, uP_eq, uP_ne, gk1, gk2, gk3, gk4, gk10, gk11, gk12, gk13, gk14, gk15, gk17, gkr0, gkr7, gkr8, gkr9, gkr16, gkr18, gkr19, gkr5, gkr6, ok0, ok1, ok2, ok3, gl2_0, gl2_1, gl2_2, gl3_0, gl3_1, gl3_2, gm0, gm2, gm3, gm4, gm5, gm6, gm7, gm8, gm9, gm10, gm11, gm13, gm14, gm22, gm23, gm26, gm27, gm28, gm29, gm31, gm32, gm33, gm36, gm37, gm39, gm40, gm41, gm1, gm12, gm15, gm16, gm17, gm18, gm19, gm20, gm21, gm24, gm25, gm30, gm34, gm35, gm38, rk0, sk0, rk9, sk9, rk16, sk16, rk18, sk18, rk19, sk19, rm1, sm1, rm12, sm12, rm15, sm15, rm16, sm16, rm17, sm17, rm18, sm18, rm19, sm19, rm20, sm20, rm21, sm21, rm24, sm24, rm25, sm25, rm30, sm30, rm34, sm34, rm35, sm35, rm38, sm38, pk1, pk2, pk3, pk4, pk10, pk11, pk12, pk13, pk14, pk15, pk17, pkr5, pkr6, pm0, pm2, pm3, pm4, pm5, pm6, pm7, pm8, pm9, pm10, pm11, pm13, pz13_0, pz13_1, pm14, pz14_0, pz14_1, pm22, pm23, pm26, pm27, pm28, pm29, pm31, pm32, pm33, pm36, pm37, pm39, pm40, pm41, pl2_0, pl2_1, pl2_2, pl3_0, pl3_1, pl3_2, f_X2_why, z10, z00, if_true, if_false, e8]
      · have hwy : wy (f 14 = 1 ∧ 0 ≤ p ∧ p < a 15 2) ((0 ≤ seed ∧ seed ≤ 65536) ∧ 0 ≤ n ∧ n ≤ 60) = 2 := by
          unfold wy
          rw [if_pos c1, if_neg (fun h => c3 h.2)]
        rw [hwy, if_pos c1, if_pos c2, if_neg c3]
        simp (disch := first | omega | assumption) only [Option.bind_some, bn2_some, ii_lit, ii_neg, ii_add, ii_sub, ii_mul, ii_le, ii_lt, ii_eq, ii_ite, ii_or, ii_and, ii_bit, ii_rem, ii_div, b0_, b1_, b2_, b3_, true_and, and_true, u1_eq, u1_ne, u2_eq, u2_nk, u2_ni, uP_eq, uP_ne, gk1, gk2, gk3, gk4, gk10, gk11, gk12, gk13, gk14, gk15, gk17, gkr0, gkr7, gkr8, gkr9, gkr16, gkr18, gkr19, gkr5, gkr6, ok0, ok1, ok2, ok3, gl2_0, gl2_1, gl2_2, gl3_0, gl3_1, gl3_2, gm0, gm2, gm3, gm4, gm5, gm6, gm7, gm8, gm9, gm10, gm11, gm13, gm14, gm22, gm23, gm26, gm27, gm28, gm29, gm31, gm32, gm33, gm36, gm37, gm39, gm40, gm41, gm1, gm12, gm15, gm16, gm17, gm18, gm19, gm20, gm21, gm24, gm25, gm30, gm34, gm35, gm38, rk0, sk0, rk9, sk9, rk16, sk16, rk18, sk18, rk19, sk19, rm1, sm1, rm12, sm12, rm15, sm15, rm16, sm16, rm17, sm17, rm18, sm18, rm19, sm19, rm20, sm20, rm21, sm21, rm24, sm24, rm25, sm25, rm30, sm30, rm34, sm34, rm35, sm35, rm38, sm38, pk1, pk2, pk3, pk4, pk10, pk11, pk12, pk13, pk14, pk15, pk17, pkr5, pkr6, pm0, pm2, pm3, pm4, pm5, pm6, pm7, pm8, pm9, pm10, pm11, pm13, pz13_0, pz13_1, pm14, pz14_0, pz14_1, pm22, pm23, pm26, pm27, pm28, pm29, pm31, pm32, pm33, pm36, pm37, pm39, pm40, pm41, pl2_0, pl2_1, pl2_2, pl3_0, pl3_1, pl3_2, f_X2_why, z10, z00, z20, if_true, if_false, m_no, u1_u1]
    · have hwy : wy (f 14 = 1 ∧ 0 ≤ p ∧ p < a 15 2) ((0 ≤ seed ∧ seed ≤ 65536) ∧ 0 ≤ n ∧ n ≤ 60) = 2 := by
        unfold wy
        rw [if_pos c1, if_neg (fun h => c2 h.1)]
      rw [hwy, if_pos c1, if_neg c2]
      simp (disch := first | omega | assumption) only [Option.bind_some, bn2_some, ii_lit, ii_neg, ii_add, ii_sub, ii_mul, ii_le, ii_lt, ii_eq, ii_ite, ii_or, ii_and, ii_bit, ii_rem, ii_div, b0_, b1_, b2_, b3_, true_and, and_true, u1_eq, u1_ne, u2_eq, u2_nk, u2_ni, uP_eq, uP_ne, gk1, gk2, gk3, gk4, gk10, gk11, gk12, gk13, gk14, gk15, gk17, gkr0, gkr7, gkr8, gkr9, gkr16, gkr18, gkr19, gkr5, gkr6, ok0, ok1, ok2, ok3, gl2_0, gl2_1, gl2_2, gl3_0, gl3_1, gl3_2, gm0, gm2, gm3, gm4, gm5, gm6, gm7, gm8, gm9, gm10, gm11, gm13, gm14, gm22, gm23, gm26, gm27, gm28, gm29, gm31, gm32, gm33, gm36, gm37, gm39, gm40, gm41, gm1, gm12, gm15, gm16, gm17, gm18, gm19, gm20, gm21, gm24, gm25, gm30, gm34, gm35, gm38, rk0, sk0, rk9, sk9, rk16, sk16, rk18, sk18, rk19, sk19, rm1, sm1, rm12, sm12, rm15, sm15, rm16, sm16, rm17, sm17, rm18, sm18, rm19, sm19, rm20, sm20, rm21, sm21, rm24, sm24, rm25, sm25, rm30, sm30, rm34, sm34, rm35, sm35, rm38, sm38, pk1, pk2, pk3, pk4, pk10, pk11, pk12, pk13, pk14, pk15, pk17, pkr5, pkr6, pm0, pm2, pm3, pm4, pm5, pm6, pm7, pm8, pm9, pm10, pm11, pm13, pz13_0, pz13_1, pm14, pz14_0, pz14_1, pm22, pm23, pm26, pm27, pm28, pm29, pm31, pm32, pm33, pm36, pm37, pm39, pm40, pm41, pl2_0, pl2_1, pl2_2, pl3_0, pl3_1, pl3_2, f_X2_why, f_X2_drawn_J35, f_X2_drawn_J36, z10, z00, z20, if_true, if_false, m_no, u1_u1]
  · have hwy : wy (f 14 = 1 ∧ 0 ≤ p ∧ p < a 15 2) ((0 ≤ seed ∧ seed ≤ 65536) ∧ 0 ≤ n ∧ n ≤ 60) = 1 := if_neg c1
    rw [hwy, if_neg c1]
    by_cases c2 : 0 ≤ seed ∧ seed ≤ 65536
    · rw [if_pos c2]
      simp (disch := first | omega | assumption) only [Option.bind_some, bn2_some, ii_lit, ii_neg, ii_add, ii_sub, ii_mul, ii_le, ii_lt, ii_eq, ii_ite, ii_or, ii_and, ii_bit, ii_rem, ii_div, b0_, b1_, b2_, b3_, true_and, and_true, u1_eq, u1_ne, u2_eq, u2_nk, u2_ni, uP_eq, uP_ne, gk1, gk2, gk3, gk4, gk10, gk11, gk12, gk13, gk14, gk15, gk17, gkr0, gkr7, gkr8, gkr9, gkr16, gkr18, gkr19, gkr5, gkr6, ok0, ok1, ok2, ok3, gl2_0, gl2_1, gl2_2, gl3_0, gl3_1, gl3_2, gm0, gm2, gm3, gm4, gm5, gm6, gm7, gm8, gm9, gm10, gm11, gm13, gm14, gm22, gm23, gm26, gm27, gm28, gm29, gm31, gm32, gm33, gm36, gm37, gm39, gm40, gm41, gm1, gm12, gm15, gm16, gm17, gm18, gm19, gm20, gm21, gm24, gm25, gm30, gm34, gm35, gm38, rk0, sk0, rk9, sk9, rk16, sk16, rk18, sk18, rk19, sk19, rm1, sm1, rm12, sm12, rm15, sm15, rm16, sm16, rm17, sm17, rm18, sm18, rm19, sm19, rm20, sm20, rm21, sm21, rm24, sm24, rm25, sm25, rm30, sm30, rm34, sm34, rm35, sm35, rm38, sm38, pk1, pk2, pk3, pk4, pk10, pk11, pk12, pk13, pk14, pk15, pk17, pkr5, pkr6, pm0, pm2, pm3, pm4, pm5, pm6, pm7, pm8, pm9, pm10, pm11, pm13, pz13_0, pz13_1, pm14, pz14_0, pz14_1, pm22, pm23, pm26, pm27, pm28, pm29, pm31, pm32, pm33, pm36, pm37, pm39, pm40, pm41, pl2_0, pl2_1, pl2_2, pl3_0, pl3_1, pl3_2, f_X2_why, z10, z00, z20, if_true, if_false, m_no, u1_u1]
    · rw [if_neg c2]
      simp (disch := first | omega | assumption) only [Option.bind_some, bn2_some, ii_lit, ii_neg, ii_add, ii_sub, ii_mul, ii_le, ii_lt, ii_eq, ii_ite, ii_or, ii_and, ii_bit, ii_rem, ii_div, b0_, b1_, b2_, b3_, true_and, and_true, u1_eq, u1_ne, u2_eq, u2_nk, u2_ni, uP_eq, uP_ne, gk1, gk2, gk3, gk4, gk10, gk11, gk12, gk13, gk14, gk15, gk17, gkr0, gkr7, gkr8, gkr9, gkr16, gkr18, gkr19, gkr5, gkr6, ok0, ok1, ok2, ok3, gl2_0, gl2_1, gl2_2, gl3_0, gl3_1, gl3_2, gm0, gm2, gm3, gm4, gm5, gm6, gm7, gm8, gm9, gm10, gm11, gm13, gm14, gm22, gm23, gm26, gm27, gm28, gm29, gm31, gm32, gm33, gm36, gm37, gm39, gm40, gm41, gm1, gm12, gm15, gm16, gm17, gm18, gm19, gm20, gm21, gm24, gm25, gm30, gm34, gm35, gm38, rk0, sk0, rk9, sk9, rk16, sk16, rk18, sk18, rk19, sk19, rm1, sm1, rm12, sm12, rm15, sm15, rm16, sm16, rm17, sm17, rm18, sm18, rm19, sm19, rm20, sm20, rm21, sm21, rm24, sm24, rm25, sm25, rm30, sm30, rm34, sm34, rm35, sm35, rm38, sm38, pk1, pk2, pk3, pk4, pk10, pk11, pk12, pk13, pk14, pk15, pk17, pkr5, pkr6, pm0, pm2, pm3, pm4, pm5, pm6, pm7, pm8, pm9, pm10, pm11, pm13, pz13_0, pz13_1, pm14, pz14_0, pz14_1, pm22, pm23, pm26, pm27, pm28, pm29, pm31, pm32, pm33, pm36, pm37, pm39, pm40, pm41, pl2_0, pl2_1, pl2_2, pl3_0, pl3_1, pl3_2, f_X2_why, f_X2_drawn_J35, f_X2_drawn_J36, z10, z00, z20, if_true, if_false, m_no, u1_u1]
