/-! PLAIN 9i: rounds: the model -/
set_option maxRecDepth 100000
def cd (ρ σ : Int → Int) (p : Int) (k : Nat) : Int := ts ρ σ p k * 9 + rs ρ σ p k
theorem cd_sm {ρ τ σ : Int → Int} (h : Rg ρ τ σ) {p : Int} (h0 : 0 ≤ p) (h1 : p < ρ 2) {i j : Nat} (he : cd ρ σ p i = cd ρ σ p j) : Sm (ts ρ σ p) (rs ρ σ p) i j := by
  have a0 := ev_rg h h0 h1
  have a2 := rs_rg h h0 h1 i
  have a4 := rs_rg h h0 h1 j
  unfold cd at he
  exact ⟨by omega, by omega⟩
theorem cd_rg {ρ τ σ : Int → Int} (h : Rg ρ τ σ) {p : Int} (h0 : 0 ≤ p) (h1 : p < ρ 2) (k : Nat) : 0 ≤ cd ρ σ p k ∧ cd ρ σ p k < 900 := by
  have a0 := ev_rg h h0 h1
  have a1 := ts_rg h h0 h1 k
  have a2 := rs_rg h h0 h1 k
  have hw := h.wd
  unfold cd
  omega
theorem m_gr74 (x : Nat) (F : Nat → Int) (P : Nat → Option Nat) (A : Nat → Int → Int) (f l : Nat → Int) (a : Nat → Int → Int) (b : fk_M) {p : Int} (hR : Rg (a 15) (a 17) (a 19)) (h0 : 0 ≤ p) (h1 : p < a 15 2) {sf sr : Nat} (hd : Rd (ts (a 15) (a 19) p) (rs (a 15) (a 19) p) sf sr) (hb : sf + sr ≤ 900) : ∀ (e n N : Nat) (y : Nat → Int → Int), n + e = sf + sr → e < N → (∀ j, j ≠ 24 → j ≠ 25 → y j = a j) → (∀ k : Nat, k < n → y 24 k = ts (a 15) (a 19) p k) → (∀ k : Nat, k < n → y 25 (cd (a 15) (a 19) p k) = k) → (∀ s : Int, 0 ≤ s → s < 900 → y 25 s = -1 ∨ ∃ k : Nat, k < n ∧ s = cd (a 15) (a 19) p k) → ∃ y', f_X2_goRound_L74 (some (x + 8)) (ii p) (ii (ev (a 15) p)) N (ii (ts (a 15) (a 19) p n)) (ii n) (ii (cd (a 15) (a 19) p n)) (hp x F P A f l y b) = f_X2_goRound_L187 (some (x + 8)) fk_fuel (ii ((sf : Int) + sr)) (hp x F P A (u1 (u1 f 26 sf) 27 sr) l y' b) ∧ (∀ j, j ≠ 24 → j ≠ 25 → y' j = a j) ∧ ∀ k : Nat, k < sf + sr → y' 24 k = ts (a 15) (a 19) p k := by
  have hw := hR.wd
  have hq := hR.pr h0 h1
  have hev := ev_rg hR h0 h1
  have hs0 := hd.1
  intro e
  induction e with
  | zero =>
    intro n N y hn hN hy h24 h25 hm
    obtain ⟨N, rfl⟩ : ∃ M, N = M + 1 := ⟨N - 1, by omega⟩
    obtain rfl : n = sf + sr := by omega
    have hc := cd_rg hR h0 h1 (sf + sr)
    have ec : cd (a 15) (a 19) p (sf + sr) = cd (a 15) (a 19) p sf := by
      unfold cd
      rw [hd.2.1.1, hd.2.1.2]
    have e1 := h25 sf (by omega)
    rw [← ec] at e1
    refine ⟨y, ?_, hy, h24⟩
    rw [f_X2_goRound_L74]
    simp (disch := first | omega | assumption) only [Option.bind_some, bn2_some, ii_lit, ii_neg, ii_add, ii_sub, ii_mul, ii_le, ii_lt, ii_eq, ii_ite, ii_or, ii_and, ii_bit, ii_rem, ii_div, b0_, b1_, b2_, b3_, true_and, and_true, u1_eq, u1_ne, u2_eq, u2_nk, u2_ni, uP_eq, uP_ne, gk1, gk2, gk3, gk4, gk10, gk11, gk12, gk13, gk14, gk15, gk17, gkr0, gkr7, gkr8, gkr9, gkr16, gkr18, gkr19, gkr5, gkr6, ok0, ok1, ok2, ok3, gl2_0, gl2_1, gl2_2, gl3_0, gl3_1, gl3_2, gm0, gm2, gm3, gm4, gm5, gm6, gm7, gm8, gm9, gm10, gm11, gm13, gm14, gm22, gm23, gm26, gm27, gm28, gm29, gm31, gm32, gm33, gm36, gm37, gm39, gm40, gm41, gm1, gm12, gm15, gm16, gm17, gm18, gm19, gm20, gm21, gm24, gm25, gm30, gm34, gm35, gm38, rk0, sk0, rk9, sk9, rk16, sk16, rk18, sk18, rk19, sk19, rm1, sm1, rm12, sm12, rm15, sm15, rm16, sm16, rm17, sm17, rm18, sm18, rm19, sm19, rm20, sm20, rm21, sm21, rm24, sm24, rm25, sm25, rm30, sm30, rm34, sm34, rm35, sm35, rm38, sm38, pk1, pk2, pk3, pk4, pk10, pk11, pk12, pk13, pk14, pk15, pk17, pkr5, pkr6, pm0, pm2, pm3, pm4, pm5, pm6, pm7, pm8, pm9, pm10, pm11, pm13, pz13_0, pz13_1, pm14, pz14_0, pz14_1, pm22, pm23, pm26, pm27, pm28, pm29, pm31, pm32, pm33, pm36, pm37, pm39, pm40, pm41, pl2_0, pl2_1, pl2_2, pl3_0, pl3_1, pl3_2, e1]
    rw [if_pos (by omega), show ((sf + sr : Nat) : Int) - sf = sr by omega]
    rfl
  | succ e ih =>
    intro n N y hn hN hy h24 h25 hm
    obtain ⟨N, rfl⟩ : ∃ M, N = M + 1 := ⟨N - 1, by omega⟩
    have hc := cd_rg hR h0 h1 n
    have ht := ts_rg hR h0 h1 n
    have hneg : y 25 (cd (a 15) (a 19) p n) = -1 := by
      rcases hm _ hc.1 hc.2 with h | ⟨k, hk, hs⟩
      · exact h
      · exact absurd (cd_sm hR h0 h1 hs.symm) (hd.2.2 k n hk (by omega))
    have hne : ∀ k : Nat, k < n → cd (a 15) (a 19) p k ≠ cd (a 15) (a 19) p n := fun k hk he => absurd (cd_sm hR h0 h1 he) (hd.2.2 k n hk (by omega))
    obtain ⟨Y, hY⟩ : ∃ Y, Y = u2 (u2 y 25 (cd (a 15) (a 19) p n) n) 24 n (ts (a 15) (a 19) p n) := ⟨_, rfl⟩
    have hY1 : ∀ j, j ≠ 24 → j ≠ 25 → Y j = a j := fun j j1 j2 => by rw [hY, u2_nk _ _ _ j1, u2_nk _ _ _ j2]; exact hy j j1 j2
    have hY25 : Y 25 = u2 y 25 (cd (a 15) (a 19) p n) n 25 := by rw [hY, u2_nk _ _ _ (by omega)]
    obtain ⟨y', g1, g2⟩ := ih (n + 1) N Y (by omega) (by omega) hY1 (fun k hk => by
      by_cases hkn : k = n
      · subst hkn
        rw [hY, u2_eq]
      · rw [hY, u2_ni _ _ _ (by omega), u2_nk _ _ _ (by omega)]
        exact h24 k (by omega)) (fun k hk => by
      rw [hY25]
      by_cases hkn : k = n
      · subst hkn
        rw [u2_eq]
      · rw [u2_ni _ _ _ (hne k (by omega))]
        exact h25 k (by omega)) (fun s s0 s1 => by
      rw [hY25]
      by_cases hs : s = cd (a 15) (a 19) p n
      · exact Or.inr ⟨n, by omega, hs⟩
      · rw [u2_ni _ _ _ hs]
        rcases hm s s0 s1 with h | ⟨k, hk, h⟩
        · exact Or.inl h
        · exact Or.inr ⟨k, by omega, h⟩)
    refine ⟨y', ?_, g2⟩
    have eY15 := hY1 15 (by omega) (by omega)
    have eY19 := hY1 19 (by omega) (by omega)
    have hbh := m_behind x F P A f l Y b (p := p) (v := ts (a 15) (a 19) p n) (s := a 19 (5 + p)) (e := a 15 (13 + p)) (g := a 19 35 + ((n : Int) + 1)) (d := 0) h0 (by omega) (by rw [eY15]; omega) (by rw [eY15]; omega) ht.1 (by rw [eY15]; exact ht.2) (by omega) (by omega) (by rw [eY15]; omega) (by rw [eY15]; omega) (by omega) (by omega) (by omega) (by omega) (by omega) (by omega)
    rw [eY15] at hbh
    have e15 := hy 15 (by omega) (by omega)
    have e19 := hy 19 (by omega) (by omega)
    rw [hY] at hbh
    rw [f_X2_goRound_L74, ← g1]
    simp (disch := first | omega | assumption) only [Option.bind_some, bn2_some, ii_lit, ii_neg, ii_add, ii_sub, ii_mul, ii_le, ii_lt, ii_eq, ii_ite, ii_or, ii_and, ii_bit, ii_rem, ii_div, b0_, b1_, b2_, b3_, true_and, and_true, u1_eq, u1_ne, u2_eq, u2_nk, u2_ni, uP_eq, uP_ne, gk1, gk2, gk3, gk4, gk10, gk11, gk12, gk13, gk14, gk15, gk17, gkr0, gkr7, gkr8, gkr9, gkr16, gkr18, gkr19, gkr5, gkr6, ok0, ok1, ok2, ok3, gl2_0, gl2_1, gl2_2, gl3_0, gl3_1, gl3_2, gm0, gm2, gm3, gm4, gm5, gm6, gm7, gm8, gm9, gm10, gm11, gm13, gm14, gm22, gm23, gm26, gm27, gm28, gm29, gm31, gm32, gm33, gm36, gm37, gm39, gm40, gm41, gm1, gm12, gm15, gm16, gm17, gm18, gm19, gm20, gm21, gm24, gm25, gm30, gm34, gm35, gm38, rk0, sk0, rk9, sk9, rk16, sk16, rk18, sk18, rk19, sk19, rm1, sm1, rm12, sm12, rm15, sm15, rm16, sm16, rm17, sm17, rm18, sm18, rm19, sm19, rm20, sm20, rm21, sm21, rm24, sm24, rm25, sm25, rm30, sm30, rm34, sm34, rm35, sm35, rm38, sm38, pk1, pk2, pk3, pk4, pk10, pk11, pk12, pk13, pk14, pk15, pk17, pkr5, pkr6, pm0, pm2, pm3, pm4, pm5, pm6, pm7, pm8, pm9, pm10, pm11, pm13, pz13_0, pz13_1, pm14, pz14_0, pz14_1, pm22, pm23, pm26, pm27, pm28, pm29, pm31, pm32, pm33, pm36, pm37, pm39, pm40, pm41, pl2_0, pl2_1, pl2_2, pl3_0, pl3_1, pl3_2, hneg, e15, e19, hbh]
    rw [if_neg (by omega), if_neg (by omega), hY]
    rfl
theorem m_gr28 (x : Nat) (F : Nat → Int) (P : Nat → Option Nat) (A : Nat → Int → Int) (f l : Nat → Int) (a : Nat → Int → Int) (b : fk_M) {p : Int} (e : Int) : ∃ y, f_X2_goRound_L28 (some (x + 8)) (ii p) (ii e) fk_fuel (ii 0) (hp x F P A f l a b) = f_X2_goRound_L28 (some (x + 8)) (ii p) (ii e) (fk_fuel - 900) (ii 900) (hp x F P A f l y b) ∧ (∀ j, j ≠ 25 → y j = a j) ∧ ∀ s : Int, 0 ≤ s → s < 900 → y 25 s = -1 := by
  have hk : ∀ (d N : Nat) (k : Int) (y : Nat → Int → Int), 0 ≤ k → k + d = 900 → (∀ j, j ≠ 25 → y j = a j) → (∀ s : Int, 0 ≤ s → s < k → y 25 s = -1) → ∃ y', f_X2_goRound_L28 (some (x + 8)) (ii p) (ii e) (N + d) (ii k) (hp x F P A f l y b) = f_X2_goRound_L28 (some (x + 8)) (ii p) (ii e) N (ii 900) (hp x F P A f l y' b) ∧ (∀ j, j ≠ 25 → y' j = a j) ∧ ∀ s : Int, 0 ≤ s → s < 900 → y' 25 s = -1 := by
    intro d
    induction d with
    | zero =>
      intro N k y k0 k1 hy hs
      obtain rfl : k = 900 := by omega
      exact ⟨y, rfl, hy, hs⟩
    | succ d ih =>
      intro N k y k0 k1 hy hs
      obtain ⟨y', g1, g2⟩ := ih N (k + 1) (u2 y 25 k (-1)) (by omega) (by omega) (fun j hj => (u2_nk _ _ _ hj).trans (hy j hj)) (fun s s0 s1 => by
        by_cases h : s = k
        · rw [h, u2_eq]
        · rw [u2_ni _ _ _ h]
          exact hs s s0 (by omega))
      refine ⟨y', ?_, g2⟩
      rw [← g1, ← Nat.add_assoc, f_X2_goRound_L28]
      simp (disch := first | omega | assumption) only [Option.bind_some, bn2_some, ii_lit, ii_neg, ii_add, ii_sub, ii_mul, ii_le, ii_lt, ii_eq, ii_ite, ii_or, ii_and, ii_bit, ii_rem, ii_div, b0_, b1_, b2_, b3_, true_and, and_true, u1_eq, u1_ne, u2_eq, u2_nk, u2_ni, uP_eq, uP_ne, gk1, gk2, gk3, gk4, gk10, gk11, gk12, gk13, gk14, gk15, gk17, gkr0, gkr7, gkr8, gkr9, gkr16, gkr18, gkr19, gkr5, gkr6, ok0, ok1, ok2, ok3, gl2_0, gl2_1, gl2_2, gl3_0, gl3_1, gl3_2, gm0, gm2, gm3, gm4, gm5, gm6, gm7, gm8, gm9, gm10, gm11, gm13, gm14, gm22, gm23, gm26, gm27, gm28, gm29, gm31, gm32, gm33, gm36, gm37, gm39, gm40, gm41, gm1, gm12, gm15, gm16, gm17, gm18, gm19, gm20, gm21, gm24, gm25, gm30, gm34, gm35, gm38, rk0, sk0, rk9, sk9, rk16, sk16, rk18, sk18, rk19, sk19, rm1, sm1, rm12, sm12, rm15, sm15, rm16, sm16, rm17, sm17, rm18, sm18, rm19, sm19, rm20, sm20, rm21, sm21, rm24, sm24, rm25, sm25, rm30, sm30, rm34, sm34, rm35, sm35, rm38, sm38, pk1, pk2, pk3, pk4, pk10, pk11, pk12, pk13, pk14, pk15, pk17, pkr5, pkr6, pm0, pm2, pm3, pm4, pm5, pm6, pm7, pm8, pm9, pm10, pm11, pm13, pz13_0, pz13_1, pm14, pz14_0, pz14_1, pm22, pm23, pm26, pm27, pm28, pm29, pm31, pm32, pm33, pm36, pm37, pm39, pm40, pm41, pl2_0, pl2_1, pl2_2, pl3_0, pl3_1, pl3_2]
      rw [if_neg (by omega)]
  exact hk 900 (fk_fuel - 900) 0 a (by omega) (by omega) (fun _ _ => rfl) (fun s s0 s1 => by omega)
theorem m_isRound (x : Nat) (F : Nat → Int) (P : Nat → Option Nat) (A : Nat → Int → Int) (f l : Nat → Int) (a : Nat → Int → Int) (b : fk_M) {v : Nat → Int} {sf sr d : Nat} (hv : ∀ k, 0 ≤ v k ∧ v k ≤ 99) (h26 : f 26 = sf) (h27 : f 27 = sr) (hb : sf + sr ≤ 900) (hd1 : 1 ≤ d) (hd2 : d ≤ sr) (h24 : ∀ k : Nat, k < sf + 2 * sr → a 24 k = v k) : ∃ z, f_X2_isRoundOf (some (x + 8)) (ii d) (hp x F P A f l a b) = some z ∧ ((z = ii 1 ∧ Rn v sf sr d) ∨ (z = ii 0 ∧ ¬ Rn v sf sr d)) := by
  unfold f_X2_isRoundOf
  have em : (sr : Int) % (d : Int) = ((sr % d : Nat) : Int) := rfl
  simp (disch := first | omega | assumption) only [Option.bind_some, bn2_some, ii_lit, ii_neg, ii_add, ii_sub, ii_mul, ii_le, ii_lt, ii_eq, ii_ite, ii_or, ii_and, ii_bit, ii_rem, ii_div, b0_, b1_, b2_, b3_, true_and, and_true, u1_eq, u1_ne, u2_eq, u2_nk, u2_ni, uP_eq, uP_ne, gk1, gk2, gk3, gk4, gk10, gk11, gk12, gk13, gk14, gk15, gk17, gkr0, gkr7, gkr8, gkr9, gkr16, gkr18, gkr19, gkr5, gkr6, ok0, ok1, ok2, ok3, gl2_0, gl2_1, gl2_2, gl3_0, gl3_1, gl3_2, gm0, gm2, gm3, gm4, gm5, gm6, gm7, gm8, gm9, gm10, gm11, gm13, gm14, gm22, gm23, gm26, gm27, gm28, gm29, gm31, gm32, gm33, gm36, gm37, gm39, gm40, gm41, gm1, gm12, gm15, gm16, gm17, gm18, gm19, gm20, gm21, gm24, gm25, gm30, gm34, gm35, gm38, rk0, sk0, rk9, sk9, rk16, sk16, rk18, sk18, rk19, sk19, rm1, sm1, rm12, sm12, rm15, sm15, rm16, sm16, rm17, sm17, rm18, sm18, rm19, sm19, rm20, sm20, rm21, sm21, rm24, sm24, rm25, sm25, rm30, sm30, rm34, sm34, rm35, sm35, rm38, sm38, pk1, pk2, pk3, pk4, pk10, pk11, pk12, pk13, pk14, pk15, pk17, pkr5, pkr6, pm0, pm2, pm3, pm4, pm5, pm6, pm7, pm8, pm9, pm10, pm11, pm13, pz13_0, pz13_1, pm14, pz14_0, pz14_1, pm22, pm23, pm26, pm27, pm28, pm29, pm31, pm32, pm33, pm36, pm37, pm39, pm40, pm41, pl2_0, pl2_1, pl2_2, pl3_0, pl3_1, pl3_2, h27]
  rw [if_neg (by omega), em]
  by_cases hm : sr % d = 0
  rotate_left
  · have : sr % d < d := Nat.mod_lt _ (by omega)
    refine ⟨ii 0, ?_, Or.inr ⟨rfl, fun h => hm h.1⟩⟩
    simp (disch := first | omega | assumption) only [ii_lit, ii_neg, ii_add, ii_sub, ii_mul, ii_le, ii_lt, ii_eq, ii_ite, ii_or, ii_and, ii_bit, ii_rem, ii_div, b0_, b1_, b2_, b3_, true_and, and_true]
    rw [if_neg (by omega)]
  rw [hm, if_pos (show ii ((0 : Nat) : Int) = ii 0 from rfl)]
  have hL := loop_fn (fun N k => f_X2_isRoundOf_L13 (some (x + 8)) (ii d) (hp x F P A f l a b) N (ii k)) (fun k => ¬ v (sf + k.toNat) = v (sf + k.toNat + d)) (fun _ => some (ii 0)) (some (ii 1)) (lo := 0) (hi := sr) ?_ ?_ sr fk_fuel 0 (by omega) (by omega) (by unfold fk_fuel; omega)
  · rw [show (f_X2_isRoundOf_L13 (some (x + 8)) (ii d) (hp x F P A f l a b) fk_fuel (ii 0)) = _ from hL]
    rcases hf : fn (fun k => ¬ v (sf + k.toNat) = v (sf + k.toNat + d)) sr 0 with _ | j
    · refine ⟨ii 1, rfl, Or.inl ⟨rfl, hm, fun k hk => ?_⟩⟩
      have := fn_no sr 0 hf k (by omega) (by omega)
      exact Decidable.not_not.mp this
    · obtain ⟨g1, g2, -⟩ := fn_rg sr 0 j hf
      refine ⟨ii 0, rfl, Or.inr ⟨rfl, fun h => g2 (h.2 j.toNat (by omega))⟩⟩
  · intro N
    try dsimp only
    rw [f_X2_isRoundOf_L13]
    simp (disch := first | omega | assumption) only [Option.bind_some, bn2_some, ii_lit, ii_neg, ii_add, ii_sub, ii_mul, ii_le, ii_lt, ii_eq, ii_ite, ii_or, ii_and, ii_bit, ii_rem, ii_div, b0_, b1_, b2_, b3_, true_and, and_true, u1_eq, u1_ne, u2_eq, u2_nk, u2_ni, uP_eq, uP_ne, gk1, gk2, gk3, gk4, gk10, gk11, gk12, gk13, gk14, gk15, gk17, gkr0, gkr7, gkr8, gkr9, gkr16, gkr18, gkr19, gkr5, gkr6, ok0, ok1, ok2, ok3, gl2_0, gl2_1, gl2_2, gl3_0, gl3_1, gl3_2, gm0, gm2, gm3, gm4, gm5, gm6, gm7, gm8, gm9, gm10, gm11, gm13, gm14, gm22, gm23, gm26, gm27, gm28, gm29, gm31, gm32, gm33, gm36, gm37, gm39, gm40, gm41, gm1, gm12, gm15, gm16, gm17, gm18, gm19, gm20, gm21, gm24, gm25, gm30, gm34, gm35, gm38, rk0, sk0, rk9, sk9, rk16, sk16, rk18, sk18, rk19, sk19, rm1, sm1, rm12, sm12, rm15, sm15, rm16, sm16, rm17, sm17, rm18, sm18, rm19, sm19, rm20, sm20, rm21, sm21, rm24, sm24, rm25, sm25, rm30, sm30, rm34, sm34, rm35, sm35, rm38, sm38, pk1, pk2, pk3, pk4, pk10, pk11, pk12, pk13, pk14, pk15, pk17, pkr5, pkr6, pm0, pm2, pm3, pm4, pm5, pm6, pm7, pm8, pm9, pm10, pm11, pm13, pz13_0, pz13_1, pm14, pz14_0, pz14_1, pm22, pm23, pm26, pm27, pm28, pm29, pm31, pm32, pm33, pm36, pm37, pm39, pm40, pm41, pl2_0, pl2_1, pl2_2, pl3_0, pl3_1, pl3_2, h27]
    rw [if_pos (by omega)]
  · intro N k k1 k2
    have e1 := h24 (sf + k.toNat) (by omega)
    have e2 := h24 (sf + k.toNat + d) (by omega)
    rw [show ((sf + k.toNat : Nat) : Int) = sf + k by omega] at e1
    rw [show ((sf + k.toNat + d : Nat) : Int) = sf + k + d by omega] at e2
    have v1 := hv (sf + k.toNat)
    have v2 := hv (sf + k.toNat + d)
    try dsimp only
    rw [f_X2_isRoundOf_L13]
    simp (disch := first | omega | assumption) only [Option.bind_some, bn2_some, ii_lit, ii_neg, ii_add, ii_sub, ii_mul, ii_le, ii_lt, ii_eq, ii_ite, ii_or, ii_and, ii_bit, ii_rem, ii_div, b0_, b1_, b2_, b3_, true_and, and_true, u1_eq, u1_ne, u2_eq, u2_nk, u2_ni, uP_eq, uP_ne, gk1, gk2, gk3, gk4, gk10, gk11, gk12, gk13, gk14, gk15, gk17, gkr0, gkr7, gkr8, gkr9, gkr16, gkr18, gkr19, gkr5, gkr6, ok0, ok1, ok2, ok3, gl2_0, gl2_1, gl2_2, gl3_0, gl3_1, gl3_2, gm0, gm2, gm3, gm4, gm5, gm6, gm7, gm8, gm9, gm10, gm11, gm13, gm14, gm22, gm23, gm26, gm27, gm28, gm29, gm31, gm32, gm33, gm36, gm37, gm39, gm40, gm41, gm1, gm12, gm15, gm16, gm17, gm18, gm19, gm20, gm21, gm24, gm25, gm30, gm34, gm35, gm38, rk0, sk0, rk9, sk9, rk16, sk16, rk18, sk18, rk19, sk19, rm1, sm1, rm12, sm12, rm15, sm15, rm16, sm16, rm17, sm17, rm18, sm18, rm19, sm19, rm20, sm20, rm21, sm21, rm24, sm24, rm25, sm25, rm30, sm30, rm34, sm34, rm35, sm35, rm38, sm38, pk1, pk2, pk3, pk4, pk10, pk11, pk12, pk13, pk14, pk15, pk17, pkr5, pkr6, pm0, pm2, pm3, pm4, pm5, pm6, pm7, pm8, pm9, pm10, pm11, pm13, pz13_0, pz13_1, pm14, pz14_0, pz14_1, pm22, pm23, pm26, pm27, pm28, pm29, pm31, pm32, pm33, pm36, pm37, pm39, pm40, pm41, pl2_0, pl2_1, pl2_2, pl3_0, pl3_1, pl3_2, h26, h27, e1, e2]
    rw [if_neg (by omega)]
    split <;> rfl
theorem m_gr265 (x : Nat) (F : Nat → Int) (P : Nat → Option Nat) (A : Nat → Int → Int) (f l : Nat → Int) (a : Nat → Int → Int) (b : fk_M) {v : Nat → Int} {sf sr d : Nat} (hv : ∀ k, 0 ≤ v k ∧ v k ≤ 99) (hb : sf + sr ≤ 900) (hd2 : d ≤ sr) (h24 : ∀ k : Nat, k < sf + 2 * sr → a 24 k = v k) : ∀ (n N : Nat) (f : Nat → Int), n ≤ sf → n < N → f 28 = n → f 29 = d → ∃ f', f_X2_goRound_L265 (some (x + 8)) N (hp x F P A f l a b) = some (hp x F P A f' l a b) ∧ f' 28 = fr v d n ∧ ∀ j, j ≠ 28 → f' j = f j := by
  intro n
  induction n with
  | zero =>
    intro N f hn hN h28 h29
    obtain ⟨N, rfl⟩ : ∃ M, N = M + 1 := ⟨N - 1, by omega⟩
    refine ⟨f, ?_, h28, fun _ _ => rfl⟩
    rw [f_X2_goRound_L265]
    simp (disch := first | omega | assumption) only [Option.bind_some, bn2_some, ii_lit, ii_neg, ii_add, ii_sub, ii_mul, ii_le, ii_lt, ii_eq, ii_ite, ii_or, ii_and, ii_bit, ii_rem, ii_div, b0_, b1_, b2_, b3_, true_and, and_true, u1_eq, u1_ne, u2_eq, u2_nk, u2_ni, uP_eq, uP_ne, gk1, gk2, gk3, gk4, gk10, gk11, gk12, gk13, gk14, gk15, gk17, gkr0, gkr7, gkr8, gkr9, gkr16, gkr18, gkr19, gkr5, gkr6, ok0, ok1, ok2, ok3, gl2_0, gl2_1, gl2_2, gl3_0, gl3_1, gl3_2, gm0, gm2, gm3, gm4, gm5, gm6, gm7, gm8, gm9, gm10, gm11, gm13, gm14, gm22, gm23, gm26, gm27, gm28, gm29, gm31, gm32, gm33, gm36, gm37, gm39, gm40, gm41, gm1, gm12, gm15, gm16, gm17, gm18, gm19, gm20, gm21, gm24, gm25, gm30, gm34, gm35, gm38, rk0, sk0, rk9, sk9, rk16, sk16, rk18, sk18, rk19, sk19, rm1, sm1, rm12, sm12, rm15, sm15, rm16, sm16, rm17, sm17, rm18, sm18, rm19, sm19, rm20, sm20, rm21, sm21, rm24, sm24, rm25, sm25, rm30, sm30, rm34, sm34, rm35, sm35, rm38, sm38, pk1, pk2, pk3, pk4, pk10, pk11, pk12, pk13, pk14, pk15, pk17, pkr5, pkr6, pm0, pm2, pm3, pm4, pm5, pm6, pm7, pm8, pm9, pm10, pm11, pm13, pz13_0, pz13_1, pm14, pz14_0, pz14_1, pm22, pm23, pm26, pm27, pm28, pm29, pm31, pm32, pm33, pm36, pm37, pm39, pm40, pm41, pl2_0, pl2_1, pl2_2, pl3_0, pl3_1, pl3_2, h28]
    rw [if_pos (by omega)]
  | succ n ih =>
    intro N f hn hN h28 h29
    obtain ⟨N, rfl⟩ : ∃ M, N = M + 1 := ⟨N - 1, by omega⟩
    have e1 := h24 n (by omega)
    have e2 := h24 (n + d) (by omega)
    rw [show ((n + d : Nat) : Int) = n + d by omega] at e2
    have v1 := hv n
    have v2 := hv (n + d)
    have c1 : (((n + 1 : Nat) : Int) - 1) = n := by omega
    by_cases hc : v n = v (n + d)
    · obtain ⟨f', g1, g2, g3⟩ := ih N (u1 f 28 n) (by omega) (by omega) (u1_eq ..) ((u1_ne _ _ (by omega)).trans h29)
      refine ⟨f', ?_, ?_, fun j hj => (g3 j hj).trans (u1_ne _ _ hj)⟩
      · rw [f_X2_goRound_L265, ← g1]
        simp (disch := first | omega | assumption) only [Option.bind_some, bn2_some, ii_lit, ii_neg, ii_add, ii_sub, ii_mul, ii_le, ii_lt, ii_eq, ii_ite, ii_or, ii_and, ii_bit, ii_rem, ii_div, b0_, b1_, b2_, b3_, true_and, and_true, u1_eq, u1_ne, u2_eq, u2_nk, u2_ni, uP_eq, uP_ne, gk1, gk2, gk3, gk4, gk10, gk11, gk12, gk13, gk14, gk15, gk17, gkr0, gkr7, gkr8, gkr9, gkr16, gkr18, gkr19, gkr5, gkr6, ok0, ok1, ok2, ok3, gl2_0, gl2_1, gl2_2, gl3_0, gl3_1, gl3_2, gm0, gm2, gm3, gm4, gm5, gm6, gm7, gm8, gm9, gm10, gm11, gm13, gm14, gm22, gm23, gm26, gm27, gm28, gm29, gm31, gm32, gm33, gm36, gm37, gm39, gm40, gm41, gm1, gm12, gm15, gm16, gm17, gm18, gm19, gm20, gm21, gm24, gm25, gm30, gm34, gm35, gm38, rk0, sk0, rk9, sk9, rk16, sk16, rk18, sk18, rk19, sk19, rm1, sm1, rm12, sm12, rm15, sm15, rm16, sm16, rm17, sm17, rm18, sm18, rm19, sm19, rm20, sm20, rm21, sm21, rm24, sm24, rm25, sm25, rm30, sm30, rm34, sm34, rm35, sm35, rm38, sm38, pk1, pk2, pk3, pk4, pk10, pk11, pk12, pk13, pk14, pk15, pk17, pkr5, pkr6, pm0, pm2, pm3, pm4, pm5, pm6, pm7, pm8, pm9, pm10, pm11, pm13, pz13_0, pz13_1, pm14, pz14_0, pz14_1, pm22, pm23, pm26, pm27, pm28, pm29, pm31, pm32, pm33, pm36, pm37, pm39, pm40, pm41, pl2_0, pl2_1, pl2_2, pl3_0, pl3_1, pl3_2, h28, h29, c1, e1, e2]
        rw [if_neg (by omega), if_pos hc]
      · rw [g2]
        show _ = ((if v n = v (n + d) then fr v d n else n + 1 : Nat) : Int)
        rw [if_pos hc]
    · refine ⟨f, ?_, ?_, fun _ _ => rfl⟩
      · rw [f_X2_goRound_L265]
        simp (disch := first | omega | assumption) only [Option.bind_some, bn2_some, ii_lit, ii_neg, ii_add, ii_sub, ii_mul, ii_le, ii_lt, ii_eq, ii_ite, ii_or, ii_and, ii_bit, ii_rem, ii_div, b0_, b1_, b2_, b3_, true_and, and_true, u1_eq, u1_ne, u2_eq, u2_nk, u2_ni, uP_eq, uP_ne, gk1, gk2, gk3, gk4, gk10, gk11, gk12, gk13, gk14, gk15, gk17, gkr0, gkr7, gkr8, gkr9, gkr16, gkr18, gkr19, gkr5, gkr6, ok0, ok1, ok2, ok3, gl2_0, gl2_1, gl2_2, gl3_0, gl3_1, gl3_2, gm0, gm2, gm3, gm4, gm5, gm6, gm7, gm8, gm9, gm10, gm11, gm13, gm14, gm22, gm23, gm26, gm27, gm28, gm29, gm31, gm32, gm33, gm36, gm37, gm39, gm40, gm41, gm1, gm12, gm15, gm16, gm17, gm18, gm19, gm20, gm21, gm24, gm25, gm30, gm34, gm35, gm38, rk0, sk0, rk9, sk9, rk16, sk16, rk18, sk18, rk19, sk19, rm1, sm1, rm12, sm12, rm15, sm15, rm16, sm16, rm17, sm17, rm18, sm18, rm19, sm19, rm20, sm20, rm21, sm21, rm24, sm24, rm25, sm25, rm30, sm30, rm34, sm34, rm35, sm35, rm38, sm38, pk1, pk2, pk3, pk4, pk10, pk11, pk12, pk13, pk14, pk15, pk17, pkr5, pkr6, pm0, pm2, pm3, pm4, pm5, pm6, pm7, pm8, pm9, pm10, pm11, pm13, pz13_0, pz13_1, pm14, pz14_0, pz14_1, pm22, pm23, pm26, pm27, pm28, pm29, pm31, pm32, pm33, pm36, pm37, pm39, pm40, pm41, pl2_0, pl2_1, pl2_2, pl3_0, pl3_1, pl3_2, h28, h29, c1, e1, e2]
        rw [if_neg (by omega), if_neg hc]
      · rw [h28]
        show _ = ((if v n = v (n + d) then fr v d n else n + 1 : Nat) : Int)
        rw [if_neg hc]
theorem m_gr233 (x : Nat) (F : Nat → Int) (P : Nat → Option Nat) (A : Nat → Int → Int) (f l : Nat → Int) (a : Nat → Int → Int) (b : fk_M) {v : Nat → Int} {sf sr d : Nat} (hv : ∀ k, 0 ≤ v k ∧ v k ≤ 99) (hb : sf + sr ≤ 900) (hl : Ld v sf sr d) (hd2 : d ≤ sr) (h24 : ∀ k : Nat, k < sf + 2 * sr → a 24 k = v k) : ∀ (e i N : Nat) (f : Nat → Int), i + e = d → 1 ≤ i → e < N → f 26 = sf → f 27 = sr → f 29 = i → ∃ f', f_X2_goRound_L233 (some (x + 8)) N (hp x F P A f l a b) = some (hp x F P A f' l a b) ∧ f' 28 = fr v d sf ∧ f' 29 = d ∧ ∀ j, j ≠ 28 → j ≠ 29 → f' j = f j := by
  intro e
  induction e with
  | zero =>
    intro i N f hi hi1 hN h26 h27 h29
    obtain ⟨N, rfl⟩ : ∃ M, N = M + 1 := ⟨N - 1, by omega⟩
    obtain rfl : i = d := by omega
    obtain ⟨z, g1, g2⟩ := m_isRound x F P A f l a b hv h26 h27 hb hi1 hd2 h24
    rcases g2 with ⟨rfl, g2⟩ | ⟨-, g2⟩
    rotate_left
    · exact absurd hl.2.1 g2
    obtain ⟨f', k1, k2, k3⟩ := m_gr265 x F P A f l a b hv hb hd2 h24 sf fk_fuel (u1 f 28 sf) (Nat.le_refl _) (by unfold fk_fuel; omega) (u1_eq ..) ((u1_ne _ _ (by omega)).trans h29)
    refine ⟨f', ?_, k2, (k3 29 (by omega)).trans ((u1_ne _ _ (by omega)).trans h29), fun j j1 j2 => (k3 j j1).trans (u1_ne _ _ j1)⟩
    rw [f_X2_goRound_L233, ← k1]
    simp (disch := first | omega | assumption) only [Option.bind_some, bn2_some, ii_lit, ii_neg, ii_add, ii_sub, ii_mul, ii_le, ii_lt, ii_eq, ii_ite, ii_or, ii_and, ii_bit, ii_rem, ii_div, b0_, b1_, b2_, b3_, true_and, and_true, u1_eq, u1_ne, u2_eq, u2_nk, u2_ni, uP_eq, uP_ne, gk1, gk2, gk3, gk4, gk10, gk11, gk12, gk13, gk14, gk15, gk17, gkr0, gkr7, gkr8, gkr9, gkr16, gkr18, gkr19, gkr5, gkr6, ok0, ok1, ok2, ok3, gl2_0, gl2_1, gl2_2, gl3_0, gl3_1, gl3_2, gm0, gm2, gm3, gm4, gm5, gm6, gm7, gm8, gm9, gm10, gm11, gm13, gm14, gm22, gm23, gm26, gm27, gm28, gm29, gm31, gm32, gm33, gm36, gm37, gm39, gm40, gm41, gm1, gm12, gm15, gm16, gm17, gm18, gm19, gm20, gm21, gm24, gm25, gm30, gm34, gm35, gm38, rk0, sk0, rk9, sk9, rk16, sk16, rk18, sk18, rk19, sk19, rm1, sm1, rm12, sm12, rm15, sm15, rm16, sm16, rm17, sm17, rm18, sm18, rm19, sm19, rm20, sm20, rm21, sm21, rm24, sm24, rm25, sm25, rm30, sm30, rm34, sm34, rm35, sm35, rm38, sm38, pk1, pk2, pk3, pk4, pk10, pk11, pk12, pk13, pk14, pk15, pk17, pkr5, pkr6, pm0, pm2, pm3, pm4, pm5, pm6, pm7, pm8, pm9, pm10, pm11, pm13, pz13_0, pz13_1, pm14, pz14_0, pz14_1, pm22, pm23, pm26, pm27, pm28, pm29, pm31, pm32, pm33, pm36, pm37, pm39, pm40, pm41, pl2_0, pl2_1, pl2_2, pl3_0, pl3_1, pl3_2, h29, g1, h26]
    rw [if_neg (by omega)]
  | succ e ih =>
    intro i N f hi hi1 hN h26 h27 h29
    obtain ⟨N, rfl⟩ : ∃ M, N = M + 1 := ⟨N - 1, by omega⟩
    obtain ⟨z, g1, g2⟩ := m_isRound x F P A f l a b hv h26 h27 hb hi1 (by omega) h24
    rcases g2 with ⟨-, g2⟩ | ⟨rfl, g2⟩
    · exact absurd g2 (hl.2.2 i hi1 (by omega))
    obtain ⟨f', k1, k2, k3, k4⟩ := ih (i + 1) N (u1 f 29 ((i : Int) + 1)) (by omega) (by omega) (by omega) ((u1_ne _ _ (by omega)).trans h26) ((u1_ne _ _ (by omega)).trans h27) (u1_eq ..)
    refine ⟨f', ?_, k2, k3, fun j j1 j2 => (k4 j j1 j2).trans (u1_ne _ _ j2)⟩
    rw [f_X2_goRound_L233, ← k1]
    simp (disch := first | omega | assumption) only [Option.bind_some, bn2_some, ii_lit, ii_neg, ii_add, ii_sub, ii_mul, ii_le, ii_lt, ii_eq, ii_ite, ii_or, ii_and, ii_bit, ii_rem, ii_div, b0_, b1_, b2_, b3_, true_and, and_true, u1_eq, u1_ne, u2_eq, u2_nk, u2_ni, uP_eq, uP_ne, gk1, gk2, gk3, gk4, gk10, gk11, gk12, gk13, gk14, gk15, gk17, gkr0, gkr7, gkr8, gkr9, gkr16, gkr18, gkr19, gkr5, gkr6, ok0, ok1, ok2, ok3, gl2_0, gl2_1, gl2_2, gl3_0, gl3_1, gl3_2, gm0, gm2, gm3, gm4, gm5, gm6, gm7, gm8, gm9, gm10, gm11, gm13, gm14, gm22, gm23, gm26, gm27, gm28, gm29, gm31, gm32, gm33, gm36, gm37, gm39, gm40, gm41, gm1, gm12, gm15, gm16, gm17, gm18, gm19, gm20, gm21, gm24, gm25, gm30, gm34, gm35, gm38, rk0, sk0, rk9, sk9, rk16, sk16, rk18, sk18, rk19, sk19, rm1, sm1, rm12, sm12, rm15, sm15, rm16, sm16, rm17, sm17, rm18, sm18, rm19, sm19, rm20, sm20, rm21, sm21, rm24, sm24, rm25, sm25, rm30, sm30, rm34, sm34, rm35, sm35, rm38, sm38, pk1, pk2, pk3, pk4, pk10, pk11, pk12, pk13, pk14, pk15, pk17, pkr5, pkr6, pm0, pm2, pm3, pm4, pm5, pm6, pm7, pm8, pm9, pm10, pm11, pm13, pz13_0, pz13_1, pm14, pz14_0, pz14_1, pm22, pm23, pm26, pm27, pm28, pm29, pm31, pm32, pm33, pm36, pm37, pm39, pm40, pm41, pl2_0, pl2_1, pl2_2, pl3_0, pl3_1, pl3_2, h29, g1]
    rw [if_pos trivial]
theorem m_gr187 (x : Nat) (F : Nat → Int) (P : Nat → Option Nat) (A : Nat → Int → Int) (f l : Nat → Int) (a : Nat → Int → Int) (b : fk_M) {v r : Nat → Int} {sf sr : Nat} (hv : ∀ k, 0 ≤ v k ∧ v k ≤ 99) (hD : ∀ i j, Sm v r i j → Sm v r (i + 1) (j + 1)) (hd : Rd v r sf sr) (hb : sf + sr ≤ 900) (h26 : f 26 = sf) (h27 : f 27 = sr) (h24 : ∀ k : Nat, k < sf + sr → a 24 k = v k) : ∃ y, f_X2_goRound_L187 (some (x + 8)) fk_fuel (ii ((sf : Int) + sr)) (hp x F P A f l a b) = f_X2_goRound_L233 (some (x + 8)) fk_fuel (hp x F P A (u1 f 29 1) l y b) ∧ (∀ j, j ≠ 24 → y j = a j) ∧ ∀ k : Nat, k < sf + 2 * sr → y 24 k = v k := by
  have hL := loop_ex (fun N (_ : Unit) k (y : Nat → Int → Int) => f_X2_goRound_L187 (some (x + 8)) N (ii k) (hp x F P A f l y b)) (fun u k => u) (fun u y => f_X2_goRound_L233 (some (x + 8)) fk_fuel (hp x F P A (u1 f 29 1) l y b)) (fun u k y => (∀ j, j ≠ 24 → y j = a j) ∧ (∀ t : Nat, (t : Int) < k → y 24 t = v t)) (lo := (sf : Int) + sr) (hi := (sf : Int) + 2 * sr) ?_ ?_ sr fk_fuel () ((sf : Int) + sr) a (by omega) (by omega) (by unfold fk_fuel; omega) ⟨fun _ _ => rfl, fun t h => h24 t (by omega)⟩
  · obtain ⟨y, g1, g2, g3⟩ := hL
    exact ⟨y, g1, g2, fun k hk => g3 k (by omega)⟩
  · intro N u y hy
    try dsimp only
    rw [f_X2_goRound_L187]
    simp (disch := first | omega | assumption) only [Option.bind_some, bn2_some, ii_lit, ii_neg, ii_add, ii_sub, ii_mul, ii_le, ii_lt, ii_eq, ii_ite, ii_or, ii_and, ii_bit, ii_rem, ii_div, b0_, b1_, b2_, b3_, true_and, and_true, u1_eq, u1_ne, u2_eq, u2_nk, u2_ni, uP_eq, uP_ne, gk1, gk2, gk3, gk4, gk10, gk11, gk12, gk13, gk14, gk15, gk17, gkr0, gkr7, gkr8, gkr9, gkr16, gkr18, gkr19, gkr5, gkr6, ok0, ok1, ok2, ok3, gl2_0, gl2_1, gl2_2, gl3_0, gl3_1, gl3_2, gm0, gm2, gm3, gm4, gm5, gm6, gm7, gm8, gm9, gm10, gm11, gm13, gm14, gm22, gm23, gm26, gm27, gm28, gm29, gm31, gm32, gm33, gm36, gm37, gm39, gm40, gm41, gm1, gm12, gm15, gm16, gm17, gm18, gm19, gm20, gm21, gm24, gm25, gm30, gm34, gm35, gm38, rk0, sk0, rk9, sk9, rk16, sk16, rk18, sk18, rk19, sk19, rm1, sm1, rm12, sm12, rm15, sm15, rm16, sm16, rm17, sm17, rm18, sm18, rm19, sm19, rm20, sm20, rm21, sm21, rm24, sm24, rm25, sm25, rm30, sm30, rm34, sm34, rm35, sm35, rm38, sm38, pk1, pk2, pk3, pk4, pk10, pk11, pk12, pk13, pk14, pk15, pk17, pkr5, pkr6, pm0, pm2, pm3, pm4, pm5, pm6, pm7, pm8, pm9, pm10, pm11, pm13, pz13_0, pz13_1, pm14, pz14_0, pz14_1, pm22, pm23, pm26, pm27, pm28, pm29, pm31, pm32, pm33, pm36, pm37, pm39, pm40, pm41, pl2_0, pl2_1, pl2_2, pl3_0, pl3_1, pl3_2, h26, h27]
    rw [if_pos (by omega)]
  · intro N u k y k1 k2 hy
    obtain ⟨n, rfl⟩ : ∃ n : Nat, k = n := ⟨k.toNat, by omega⟩
    have e1 := hy.2 (n - sr) (by omega)
    rw [show ((n - sr : Nat) : Int) = (n : Int) - sr by omega, (hd.per hD (k := n - sr) (by omega)).1, show n - sr + sr = n by omega] at e1
    refine ⟨u2 y 24 n (v n), ⟨fun j hj => (u2_nk _ _ _ hj).trans (hy.1 j hj), fun t ht => ?_⟩, ?_⟩
    · by_cases h : t = n
      · subst h
        rw [u2_eq]
      · rw [u2_ni _ _ _ (by omega)]
        exact hy.2 t (by omega)
    · try dsimp only
      rw [f_X2_goRound_L187]
      simp (disch := first | omega | assumption) only [Option.bind_some, bn2_some, ii_lit, ii_neg, ii_add, ii_sub, ii_mul, ii_le, ii_lt, ii_eq, ii_ite, ii_or, ii_and, ii_bit, ii_rem, ii_div, b0_, b1_, b2_, b3_, true_and, and_true, u1_eq, u1_ne, u2_eq, u2_nk, u2_ni, uP_eq, uP_ne, gk1, gk2, gk3, gk4, gk10, gk11, gk12, gk13, gk14, gk15, gk17, gkr0, gkr7, gkr8, gkr9, gkr16, gkr18, gkr19, gkr5, gkr6, ok0, ok1, ok2, ok3, gl2_0, gl2_1, gl2_2, gl3_0, gl3_1, gl3_2, gm0, gm2, gm3, gm4, gm5, gm6, gm7, gm8, gm9, gm10, gm11, gm13, gm14, gm22, gm23, gm26, gm27, gm28, gm29, gm31, gm32, gm33, gm36, gm37, gm39, gm40, gm41, gm1, gm12, gm15, gm16, gm17, gm18, gm19, gm20, gm21, gm24, gm25, gm30, gm34, gm35, gm38, rk0, sk0, rk9, sk9, rk16, sk16, rk18, sk18, rk19, sk19, rm1, sm1, rm12, sm12, rm15, sm15, rm16, sm16, rm17, sm17, rm18, sm18, rm19, sm19, rm20, sm20, rm21, sm21, rm24, sm24, rm25, sm25, rm30, sm30, rm34, sm34, rm35, sm35, rm38, sm38, pk1, pk2, pk3, pk4, pk10, pk11, pk12, pk13, pk14, pk15, pk17, pkr5, pkr6, pm0, pm2, pm3, pm4, pm5, pm6, pm7, pm8, pm9, pm10, pm11, pm13, pz13_0, pz13_1, pm14, pz14_0, pz14_1, pm22, pm23, pm26, pm27, pm28, pm29, pm31, pm32, pm33, pm36, pm37, pm39, pm40, pm41, pl2_0, pl2_1, pl2_2, pl3_0, pl3_1, pl3_2, h26, h27, e1]
      rw [if_neg (by omega)]
theorem m_goRound (x : Nat) (F : Nat → Int) (P : Nat → Option Nat) (A : Nat → Int → Int) (f l : Nat → Int) (a : Nat → Int → Int) (b : fk_M) {p : Int} (hR : Rg (a 15) (a 17) (a 19)) (h0 : 0 ≤ p) (h1 : p < a 15 2) {sf sr d rf : Nat} (hz : Rall (a 15) (a 19) p sf sr d rf) : ∃ f' a', f_X2_goRound (some (x + 8)) (ii p) (hp x F P A f l a b) = some (hp x F P A f' l a' b) ∧ f' 26 = sf ∧ f' 27 = sr ∧ f' 28 = rf ∧ f' 29 = d ∧ (∀ k : Nat, k < sf + 2 * sr → a' 24 k = ts (a 15) (a 19) p k) ∧ (∀ j, j ≠ 26 → j ≠ 27 → j ≠ 28 → j ≠ 29 → f' j = f j) ∧ (∀ j, j ≠ 24 → j ≠ 25 → a' j = a j) := by
  obtain ⟨z1, -, z3, z4, z5, z6, -, -⟩ := hz
  have hw := hR.wd
  have hq := hR.pr h0 h1
  have hev := ev_rg hR h0 h1
  have hv : ∀ k, 0 ≤ ts (a 15) (a 19) p k ∧ ts (a 15) (a 19) p k ≤ 99 := fun k => by
    have := ts_rg hR h0 h1 k
    omega
  obtain ⟨y1, g1, g2, g3⟩ := m_gr28 x F P A f l a b (p := p) (ev (a 15) p)
  have e15 := g2 15 (by omega)
  have e19 := g2 19 (by omega)
  obtain ⟨y2, k1, k2, k3⟩ := m_gr74 x F P A f l a b hR h0 h1 z1 z3 (sf + sr) 0 fk_fuel y1 (by omega) (by unfold fk_fuel; omega) (fun j j1 j2 => g2 j j2) (fun k hk => by omega) (fun k hk => by omega) (fun s s0 s1 => Or.inl (g3 s s0 s1))
  obtain ⟨y3, n1, n2, n3⟩ := m_gr187 x F P A (u1 (u1 f 26 sf) 27 sr) l y2 b hv (fun i j => ts_D i j) z1 z3 ((u1_ne _ _ (by omega)).trans (u1_eq ..)) (u1_eq ..) k3
  obtain ⟨f', q1, q2, q3, q4⟩ := m_gr233 x F P A f l y3 b hv z3 z4 z5 n3 (d - 1) 1 fk_fuel (u1 (u1 (u1 f 26 sf) 27 sr) 29 1) (by have := z4.1; omega) (by omega) (by have := hq; unfold fk_fuel; omega) ((u1_ne _ _ (by omega)).trans ((u1_ne _ _ (by omega)).trans (u1_eq ..))) ((u1_ne _ _ (by omega)).trans (u1_eq ..)) (u1_eq ..)
  refine ⟨f', y3, ?_, (q4 26 (by omega) (by omega)).trans ((u1_ne _ _ (by omega)).trans ((u1_ne _ _ (by omega)).trans (u1_eq ..))), (q4 27 (by omega) (by omega)).trans ((u1_ne _ _ (by omega)).trans (u1_eq ..)), by rw [q2, z6], q3, n3, fun j j1 j2 j3 j4 => (q4 j j3 j4).trans ((u1_ne _ _ j4).trans ((u1_ne _ _ j2).trans (u1_ne _ _ j1))), fun j j1 j2 => (n2 j j1).trans (k2 j j1 j2)⟩
  have hJ : f_X2_goRound_J25 (some (x + 8)) (ii p) (ii (ev (a 15) p)) (hp x F P A f l a b) = some (hp x F P A f' l y3 b) := by
    unfold f_X2_goRound_J25
    rw [← q1, ← n1, ← k1]
    refine Eq.trans g1 ?_
    have hfu : fk_fuel - 900 = 3099 + 1 := by unfold fk_fuel; rfl
    rw [hfu, f_X2_goRound_L28]
    simp (disch := first | omega | assumption) only [Option.bind_some, bn2_some, ii_lit, ii_neg, ii_add, ii_sub, ii_mul, ii_le, ii_lt, ii_eq, ii_ite, ii_or, ii_and, ii_bit, ii_rem, ii_div, b0_, b1_, b2_, b3_, true_and, and_true, u1_eq, u1_ne, u2_eq, u2_nk, u2_ni, uP_eq, uP_ne, gk1, gk2, gk3, gk4, gk10, gk11, gk12, gk13, gk14, gk15, gk17, gkr0, gkr7, gkr8, gkr9, gkr16, gkr18, gkr19, gkr5, gkr6, ok0, ok1, ok2, ok3, gl2_0, gl2_1, gl2_2, gl3_0, gl3_1, gl3_2, gm0, gm2, gm3, gm4, gm5, gm6, gm7, gm8, gm9, gm10, gm11, gm13, gm14, gm22, gm23, gm26, gm27, gm28, gm29, gm31, gm32, gm33, gm36, gm37, gm39, gm40, gm41, gm1, gm12, gm15, gm16, gm17, gm18, gm19, gm20, gm21, gm24, gm25, gm30, gm34, gm35, gm38, rk0, sk0, rk9, sk9, rk16, sk16, rk18, sk18, rk19, sk19, rm1, sm1, rm12, sm12, rm15, sm15, rm16, sm16, rm17, sm17, rm18, sm18, rm19, sm19, rm20, sm20, rm21, sm21, rm24, sm24, rm25, sm25, rm30, sm30, rm34, sm34, rm35, sm35, rm38, sm38, pk1, pk2, pk3, pk4, pk10, pk11, pk12, pk13, pk14, pk15, pk17, pkr5, pkr6, pm0, pm2, pm3, pm4, pm5, pm6, pm7, pm8, pm9, pm10, pm11, pm13, pz13_0, pz13_1, pm14, pz14_0, pz14_1, pm22, pm23, pm26, pm27, pm28, pm29, pm31, pm32, pm33, pm36, pm37, pm39, pm40, pm41, pl2_0, pl2_1, pl2_2, pl3_0, pl3_1, pl3_2, e15, e19]
    rw [if_pos (by omega), if_neg (by omega)]
    unfold cd rs
    rw [show ((0 : Nat) : Int) = 0 from rfl, Int.add_zero]
    rfl
  unfold f_X2_goRound
  simp (disch := first | omega | assumption) only [Option.bind_some, bn2_some, ii_lit, ii_neg, ii_add, ii_sub, ii_mul, ii_le, ii_lt, ii_eq, ii_ite, ii_or, ii_and, ii_bit, ii_rem, ii_div, b0_, b1_, b2_, b3_, true_and, and_true, u1_eq, u1_ne, u2_eq, u2_nk, u2_ni, uP_eq, uP_ne, gk1, gk2, gk3, gk4, gk10, gk11, gk12, gk13, gk14, gk15, gk17, gkr0, gkr7, gkr8, gkr9, gkr16, gkr18, gkr19, gkr5, gkr6, ok0, ok1, ok2, ok3, gl2_0, gl2_1, gl2_2, gl3_0, gl3_1, gl3_2, gm0, gm2, gm3, gm4, gm5, gm6, gm7, gm8, gm9, gm10, gm11, gm13, gm14, gm22, gm23, gm26, gm27, gm28, gm29, gm31, gm32, gm33, gm36, gm37, gm39, gm40, gm41, gm1, gm12, gm15, gm16, gm17, gm18, gm19, gm20, gm21, gm24, gm25, gm30, gm34, gm35, gm38, rk0, sk0, rk9, sk9, rk16, sk16, rk18, sk18, rk19, sk19, rm1, sm1, rm12, sm12, rm15, sm15, rm16, sm16, rm17, sm17, rm18, sm18, rm19, sm19, rm20, sm20, rm21, sm21, rm24, sm24, rm25, sm25, rm30, sm30, rm34, sm34, rm35, sm35, rm38, sm38, pk1, pk2, pk3, pk4, pk10, pk11, pk12, pk13, pk14, pk15, pk17, pkr5, pkr6, pm0, pm2, pm3, pm4, pm5, pm6, pm7, pm8, pm9, pm10, pm11, pm13, pz13_0, pz13_1, pm14, pz14_0, pz14_1, pm22, pm23, pm26, pm27, pm28, pm29, pm31, pm32, pm33, pm36, pm37, pm39, pm40, pm41, pl2_0, pl2_1, pl2_2, pl3_0, pl3_1, pl3_2]
  by_cases he : a 15 (13 + p) = 0
  · rw [if_pos he]
    have : ev (a 15) p = 1 := if_pos he
    rw [← this]
    exact hJ
  · rw [if_neg he]
    have : ev (a 15) p = a 15 (13 + p) := if_neg he
    rw [← this]
    exact hJ
theorem mk.rn {f f' : Nat → Int} (h : ∀ k, k ≠ 26 → k ≠ 27 → k ≠ 28 → k ≠ 29 → f' k = f k) : mk f f' := ⟨h 2 (by omega) (by omega) (by omega) (by omega), h 9 (by omega) (by omega) (by omega) (by omega), h 10 (by omega) (by omega) (by omega) (by omega), h 14 (by omega) (by omega) (by omega) (by omega), h 22 (by omega) (by omega) (by omega) (by omega), h 23 (by omega) (by omega) (by omega) (by omega)⟩
theorem ma.rn {a a' : Nat → Int → Int} (h : ∀ j, j ≠ 24 → j ≠ 25 → a' j = a j) : ma a a' := ⟨h 1 (by omega) (by omega), h 15 (by omega) (by omega), h 17 (by omega) (by omega), h 19 (by omega) (by omega), h 20 (by omega) (by omega), h 21 (by omega) (by omega)⟩
theorem m_rnd {x : Nat} {F : Nat → Int} {P : Nat → Option Nat} {A : Nat → Int → Int} {f l : Nat → Int} {a : Nat → Int → Int} {b : fk_M} {p r : Int} {res : Option (Int32 × fk_M)} (hM : Hm f a) (h : (f 14 = 1 ∧ 0 ≤ p ∧ p < a 15 2)) (hx : ∀ sf sr d rf f' a', Rg (a 15) (a 17) (a 19) → Rall (a 15) (a 19) p sf sr d rf → f_X2_goRound (some (x + 8)) (ii p) (hp x F P A (fo f 0) l a b) = some (hp x F P A f' l a' b) → f' 26 = sf → f' 27 = sr → f' 28 = rf → f' 29 = d → (∀ k : Nat, k < sf + 2 * sr → a' 24 k = ts (a 15) (a 19) p k) → (∀ k, 0 ≤ ts (a 15) (a 19) p k ∧ ts (a 15) (a 19) p k ≤ 99) → sf + sr ≤ 900 → 0 < d → d ≤ sr → rf ≤ sf → rz (a 15) (a 19) p = (rf, d) → res = some (ii r, hp x F P A f' l a' b)) : MO x F P A f l a b r 0 res := by
  obtain ⟨e1, h0, h1⟩ := h
  obtain hn | ⟨-, hR⟩ := hM
  · omega
  have hw := hR.wd
  obtain ⟨sf, sr, d, rf, hz⟩ := Rall.ex hR h0 h1
  obtain ⟨f', a', g1, g2, g3, g4, g5, g6, g7, g8⟩ := m_goRound x F P A (fo f 0) l a b hR h0 h1 hz
  have hv : ∀ k, 0 ≤ ts (a 15) (a 19) p k ∧ ts (a 15) (a 19) p k ≤ 99 := fun k => by
    have := ts_rg hR h0 h1 k
    omega
  have := hx sf sr d rf f' a' hR hz g1 g2 g3 g4 g5 g6 hv hz.2.2.1 hz.2.2.2.1.1 hz.2.2.2.2.1 hz.2.2.2.2.2.2.1 hz.2.2.2.2.2.2.2
  exact MO.mk f' l a' this ((g7 0 (by omega) (by omega) (by omega) (by omega)).trans ((u1_ne _ _ (by omega)).trans (u1_eq ..))) ((g7 11 (by omega) (by omega) (by omega) (by omega)).trans (u1_eq ..)) ((mk.o f 0).tr (mk.rn g7)) (ma.rn g8)
theorem m_settles (x : Nat) (F : Nat → Int) (P : Nat → Option Nat) (A : Nat → Int → Int) (f l : Nat → Int) (a : Nat → Int → Int) (b : fk_M) {p : Int} (hp0 : rg p) (hM : Hm f a) : MO x F P A f l a b (s_settles (f 14) (a 15) (a 19) p) (if (f 14 = 1 ∧ 0 ≤ p ∧ p < a 15 2) then 0 else 1) (f_X2_settles (some (x + 8)) (ii p) (hp x F P A f l a b)) := by
  unfold f_X2_settles s_settles
  have hM' : Hm (fo f 0) a := hM
  simp (disch := first | omega | assumption) only [Option.bind_some, bn2_some, ii_lit, ii_neg, ii_add, ii_sub, ii_mul, ii_le, ii_lt, ii_eq, ii_ite, ii_or, ii_and, ii_bit, ii_rem, ii_div, b0_, b1_, b2_, b3_, true_and, and_true, u1_eq, u1_ne, u2_eq, u2_nk, u2_ni, uP_eq, uP_ne, gk1, gk2, gk3, gk4, gk10, gk11, gk12, gk13, gk14, gk15, gk17, gkr0, gkr7, gkr8, gkr9, gkr16, gkr18, gkr19, gkr5, gkr6, ok0, ok1, ok2, ok3, gl2_0, gl2_1, gl2_2, gl3_0, gl3_1, gl3_2, gm0, gm2, gm3, gm4, gm5, gm6, gm7, gm8, gm9, gm10, gm11, gm13, gm14, gm22, gm23, gm26, gm27, gm28, gm29, gm31, gm32, gm33, gm36, gm37, gm39, gm40, gm41, gm1, gm12, gm15, gm16, gm17, gm18, gm19, gm20, gm21, gm24, gm25, gm30, gm34, gm35, gm38, rk0, sk0, rk9, sk9, rk16, sk16, rk18, sk18, rk19, sk19, rm1, sm1, rm12, sm12, rm15, sm15, rm16, sm16, rm17, sm17, rm18, sm18, rm19, sm19, rm20, sm20, rm21, sm21, rm24, sm24, rm25, sm25, rm30, sm30, rm34, sm34, rm35, sm35, rm38, sm38, pk1, pk2, pk3, pk4, pk10, pk11, pk12, pk13, pk14, pk15, pk17, pkr5, pkr6, pm0, pm2, pm3, pm4, pm5, pm6, pm7, pm8, pm9, pm10, pm11, pm13, pz13_0, pz13_1, pm14, pz14_0, pz14_1, pm22, pm23, pm26, pm27, pm28, pm29, pm31, pm32, pm33, pm36, pm37, pm39, pm40, pm41, pl2_0, pl2_1, pl2_2, pl3_0, pl3_1, pl3_2, m_good, m_isPair, m_no, u1_u1]
  by_cases h0 : (f 14 = 1 ∧ 0 ≤ p ∧ p < a 15 2)
  · rw [if_neg (Decidable.not_not.mpr h0), if_pos h0, if_pos h0]
    refine m_rnd hM h0 (fun sf sr d rf f' a' hR hz g1 g2 g3 g4 g5 g6 hv b1 b2 b3 b4 b5 => ?_)
    rw [b5]
    simp (disch := first | omega | assumption) only [Option.bind_some, bn2_some, ii_lit, ii_neg, ii_add, ii_sub, ii_mul, ii_le, ii_lt, ii_eq, ii_ite, ii_or, ii_and, ii_bit, ii_rem, ii_div, b0_, b1_, b2_, b3_, true_and, and_true, u1_eq, u1_ne, u2_eq, u2_nk, u2_ni, uP_eq, uP_ne, gk1, gk2, gk3, gk4, gk10, gk11, gk12, gk13, gk14, gk15, gk17, gkr0, gkr7, gkr8, gkr9, gkr16, gkr18, gkr19, gkr5, gkr6, ok0, ok1, ok2, ok3, gl2_0, gl2_1, gl2_2, gl3_0, gl3_1, gl3_2, gm0, gm2, gm3, gm4, gm5, gm6, gm7, gm8, gm9, gm10, gm11, gm13, gm14, gm22, gm23, gm26, gm27, gm28, gm29, gm31, gm32, gm33, gm36, gm37, gm39, gm40, gm41, gm1, gm12, gm15, gm16, gm17, gm18, gm19, gm20, gm21, gm24, gm25, gm30, gm34, gm35, gm38, rk0, sk0, rk9, sk9, rk16, sk16, rk18, sk18, rk19, sk19, rm1, sm1, rm12, sm12, rm15, sm15, rm16, sm16, rm17, sm17, rm18, sm18, rm19, sm19, rm20, sm20, rm21, sm21, rm24, sm24, rm25, sm25, rm30, sm30, rm34, sm34, rm35, sm35, rm38, sm38, pk1, pk2, pk3, pk4, pk10, pk11, pk12, pk13, pk14, pk15, pk17, pkr5, pkr6, pm0, pm2, pm3, pm4, pm5, pm6, pm7, pm8, pm9, pm10, pm11, pm13, pz13_0, pz13_1, pm14, pz14_0, pz14_1, pm22, pm23, pm26, pm27, pm28, pm29, pm31, pm32, pm33, pm36, pm37, pm39, pm40, pm41, pl2_0, pl2_1, pl2_2, pl3_0, pl3_1, pl3_2, g1, g4]
  · rw [if_pos h0, if_neg h0, if_neg h0]
    exact MO.ref ..
theorem m_round (x : Nat) (F : Nat → Int) (P : Nat → Option Nat) (A : Nat → Int → Int) (f l : Nat → Int) (a : Nat → Int → Int) (b : fk_M) {p : Int} (hp0 : rg p) (hM : Hm f a) : MO x F P A f l a b (s_round (f 14) (a 15) (a 19) p) (if (f 14 = 1 ∧ 0 ≤ p ∧ p < a 15 2) then 0 else 1) (f_X2_round (some (x + 8)) (ii p) (hp x F P A f l a b)) := by
  unfold f_X2_round s_round
  have hM' : Hm (fo f 0) a := hM
  simp (disch := first | omega | assumption) only [Option.bind_some, bn2_some, ii_lit, ii_neg, ii_add, ii_sub, ii_mul, ii_le, ii_lt, ii_eq, ii_ite, ii_or, ii_and, ii_bit, ii_rem, ii_div, b0_, b1_, b2_, b3_, true_and, and_true, u1_eq, u1_ne, u2_eq, u2_nk, u2_ni, uP_eq, uP_ne, gk1, gk2, gk3, gk4, gk10, gk11, gk12, gk13, gk14, gk15, gk17, gkr0, gkr7, gkr8, gkr9, gkr16, gkr18, gkr19, gkr5, gkr6, ok0, ok1, ok2, ok3, gl2_0, gl2_1, gl2_2, gl3_0, gl3_1, gl3_2, gm0, gm2, gm3, gm4, gm5, gm6, gm7, gm8, gm9, gm10, gm11, gm13, gm14, gm22, gm23, gm26, gm27, gm28, gm29, gm31, gm32, gm33, gm36, gm37, gm39, gm40, gm41, gm1, gm12, gm15, gm16, gm17, gm18, gm19, gm20, gm21, gm24, gm25, gm30, gm34, gm35, gm38, rk0, sk0, rk9, sk9, rk16, sk16, rk18, sk18, rk19, sk19, rm1, sm1, rm12, sm12, rm15, sm15, rm16, sm16, rm17, sm17, rm18, sm18, rm19, sm19, rm20, sm20, rm21, sm21, rm24, sm24, rm25, sm25, rm30, sm30, rm34, sm34, rm35, sm35, rm38, sm38, pk1, pk2, pk3, pk4, pk10, pk11, pk12, pk13, pk14, pk15, pk17, pkr5, pkr6, pm0, pm2, pm3, pm4, pm5, pm6, pm7, pm8, pm9, pm10, pm11, pm13, pz13_0, pz13_1, pm14, pz14_0, pz14_1, pm22, pm23, pm26, pm27, pm28, pm29, pm31, pm32, pm33, pm36, pm37, pm39, pm40, pm41, pl2_0, pl2_1, pl2_2, pl3_0, pl3_1, pl3_2, m_good, m_isPair, m_no, u1_u1]
  by_cases h0 : (f 14 = 1 ∧ 0 ≤ p ∧ p < a 15 2)
  · rw [if_neg (Decidable.not_not.mpr h0), if_pos h0, if_pos h0]
    refine m_rnd hM h0 (fun sf sr d rf f' a' hR hz g1 g2 g3 g4 g5 g6 hv b1 b2 b3 b4 b5 => ?_)
    rw [b5]
    simp (disch := first | omega | assumption) only [Option.bind_some, bn2_some, ii_lit, ii_neg, ii_add, ii_sub, ii_mul, ii_le, ii_lt, ii_eq, ii_ite, ii_or, ii_and, ii_bit, ii_rem, ii_div, b0_, b1_, b2_, b3_, true_and, and_true, u1_eq, u1_ne, u2_eq, u2_nk, u2_ni, uP_eq, uP_ne, gk1, gk2, gk3, gk4, gk10, gk11, gk12, gk13, gk14, gk15, gk17, gkr0, gkr7, gkr8, gkr9, gkr16, gkr18, gkr19, gkr5, gkr6, ok0, ok1, ok2, ok3, gl2_0, gl2_1, gl2_2, gl3_0, gl3_1, gl3_2, gm0, gm2, gm3, gm4, gm5, gm6, gm7, gm8, gm9, gm10, gm11, gm13, gm14, gm22, gm23, gm26, gm27, gm28, gm29, gm31, gm32, gm33, gm36, gm37, gm39, gm40, gm41, gm1, gm12, gm15, gm16, gm17, gm18, gm19, gm20, gm21, gm24, gm25, gm30, gm34, gm35, gm38, rk0, sk0, rk9, sk9, rk16, sk16, rk18, sk18, rk19, sk19, rm1, sm1, rm12, sm12, rm15, sm15, rm16, sm16, rm17, sm17, rm18, sm18, rm19, sm19, rm20, sm20, rm21, sm21, rm24, sm24, rm25, sm25, rm30, sm30, rm34, sm34, rm35, sm35, rm38, sm38, pk1, pk2, pk3, pk4, pk10, pk11, pk12, pk13, pk14, pk15, pk17, pkr5, pkr6, pm0, pm2, pm3, pm4, pm5, pm6, pm7, pm8, pm9, pm10, pm11, pm13, pz13_0, pz13_1, pm14, pz14_0, pz14_1, pm22, pm23, pm26, pm27, pm28, pm29, pm31, pm32, pm33, pm36, pm37, pm39, pm40, pm41, pl2_0, pl2_1, pl2_2, pl3_0, pl3_1, pl3_2, g1, g5]
  · rw [if_pos h0, if_neg h0, if_neg h0]
    exact MO.ref ..
theorem m_saysLate (x : Nat) (F : Nat → Int) (P : Nat → Option Nat) (A : Nat → Int → Int) (f l : Nat → Int) (a : Nat → Int → Int) (b : fk_M) {p n : Int} (hp0 : rg p) (hn : rg n) (hM : Hm f a) : MO x F P A f l a b (s_saysLate (f 14) (a 15) (a 19) p n) (wy (f 14 = 1 ∧ 0 ≤ p ∧ p < a 15 2) (0 ≤ n ∧ n ≤ 2000000000)) (f_X2_saysLate (some (x + 8)) (ii p) (ii n) (hp x F P A f l a b)) := by
  unfold f_X2_saysLate s_saysLate
  have hM' : Hm (fo f 0) a := hM
  have hy := wy_rg (f 14 = 1 ∧ 0 ≤ p ∧ p < a 15 2) (0 ≤ n ∧ n ≤ 2000000000)
  have ei : f_X2_in (ii n) 0 2000000000 (hp x F P A (fo f 0) l a b) = some (ii (if 0 ≤ n ∧ n ≤ 2000000000 then 1 else 0)) := m_in _ (lo := 0) (hi := 2000000000) hn (by omega) (by omega)
  have ew : f_X2_why (some (x + 8)) (ii (if (f 14 = 1 ∧ 0 ≤ p ∧ p < a 15 2) then 1 else 0)) (ii (if 0 ≤ n ∧ n ≤ 2000000000 then 1 else 0)) (hp x F P A (fo f 0) l a b) = some (ii (wy (f 14 = 1 ∧ 0 ≤ p ∧ p < a 15 2) (0 ≤ n ∧ n ≤ 2000000000))) := by
    rw [m_why _ _ (by (repeat' split) <;> omega) (by (repeat' split) <;> omega)]
    simp only [b1_]
  simp only [ok1, Option.bind_some, m_good, m_isPair x F P A (fo f 0) l a b hp0 hM', ei]
  rw [show (fo f 0 14) = f 14 from rfl, ew, Option.bind_some]
  by_cases h0 : wy (f 14 = 1 ∧ 0 ≤ p ∧ p < a 15 2) (0 ≤ n ∧ n ≤ 2000000000) = 0
  · obtain ⟨hpr, hn0, hn1⟩ := wy_0.mp h0
    rw [h0, if_pos (show ii 0 = 0 from rfl), if_pos rfl]
    refine m_rnd hM hpr (fun sf sr d rf f' a' hR hz g1 g2 g3 g4 g5 g6 hv b1 b2 b3 b4 b5 => ?_)
    have em : 0 ≤ (n - sf) % (sr : Int) ∧ (n - sf) % (sr : Int) < sr := ⟨Int.emod_nonneg _ (by omega), Int.emod_lt_of_pos _ (by omega)⟩
    rw [g1, Option.bind_some]
    by_cases hc : (sf : Int) ≤ n
    · have e1 := g6 (sf + (n.toNat - sf) % sr) (by have := Nat.mod_lt (n.toNat - sf) (show 0 < sr by omega); omega)
      have e2 : (n - sf) % (sr : Int) = (((n.toNat - sf) % sr : Nat) : Int) := by
        rw [show n - sf = ((n.toNat - sf : Nat) : Int) by omega]
        rfl
      rw [show ((sf + (n.toNat - sf) % sr : Nat) : Int) = sf + (n - sf) % (sr : Int) by rw [e2]; omega, (hz.1.mod (fun i j => ts_D i j) (k := n.toNat) (by omega)).1] at e1
      simp (disch := first | omega | assumption) only [Option.bind_some, bn2_some, ii_lit, ii_neg, ii_add, ii_sub, ii_mul, ii_le, ii_lt, ii_eq, ii_ite, ii_or, ii_and, ii_bit, ii_rem, ii_div, b0_, b1_, b2_, b3_, true_and, and_true, u1_eq, u1_ne, u2_eq, u2_nk, u2_ni, uP_eq, uP_ne, gk1, gk2, gk3, gk4, gk10, gk11, gk12, gk13, gk14, gk15, gk17, gkr0, gkr7, gkr8, gkr9, gkr16, gkr18, gkr19, gkr5, gkr6, ok0, ok1, ok2, ok3, gl2_0, gl2_1, gl2_2, gl3_0, gl3_1, gl3_2, gm0, gm2, gm3, gm4, gm5, gm6, gm7, gm8, gm9, gm10, gm11, gm13, gm14, gm22, gm23, gm26, gm27, gm28, gm29, gm31, gm32, gm33, gm36, gm37, gm39, gm40, gm41, gm1, gm12, gm15, gm16, gm17, gm18, gm19, gm20, gm21, gm24, gm25, gm30, gm34, gm35, gm38, rk0, sk0, rk9, sk9, rk16, sk16, rk18, sk18, rk19, sk19, rm1, sm1, rm12, sm12, rm15, sm15, rm16, sm16, rm17, sm17, rm18, sm18, rm19, sm19, rm20, sm20, rm21, sm21, rm24, sm24, rm25, sm25, rm30, sm30, rm34, sm34, rm35, sm35, rm38, sm38, pk1, pk2, pk3, pk4, pk10, pk11, pk12, pk13, pk14, pk15, pk17, pkr5, pkr6, pm0, pm2, pm3, pm4, pm5, pm6, pm7, pm8, pm9, pm10, pm11, pm13, pz13_0, pz13_1, pm14, pz14_0, pz14_1, pm22, pm23, pm26, pm27, pm28, pm29, pm31, pm32, pm33, pm36, pm37, pm39, pm40, pm41, pl2_0, pl2_1, pl2_2, pl3_0, pl3_1, pl3_2, g2, g3, e1]
      rw [if_pos hc, if_neg (by omega)]
    · have e1 := g6 n.toNat (by omega)
      rw [show ((n.toNat : Nat) : Int) = n by omega] at e1
      simp (disch := first | omega | assumption) only [Option.bind_some, bn2_some, ii_lit, ii_neg, ii_add, ii_sub, ii_mul, ii_le, ii_lt, ii_eq, ii_ite, ii_or, ii_and, ii_bit, ii_rem, ii_div, b0_, b1_, b2_, b3_, true_and, and_true, u1_eq, u1_ne, u2_eq, u2_nk, u2_ni, uP_eq, uP_ne, gk1, gk2, gk3, gk4, gk10, gk11, gk12, gk13, gk14, gk15, gk17, gkr0, gkr7, gkr8, gkr9, gkr16, gkr18, gkr19, gkr5, gkr6, ok0, ok1, ok2, ok3, gl2_0, gl2_1, gl2_2, gl3_0, gl3_1, gl3_2, gm0, gm2, gm3, gm4, gm5, gm6, gm7, gm8, gm9, gm10, gm11, gm13, gm14, gm22, gm23, gm26, gm27, gm28, gm29, gm31, gm32, gm33, gm36, gm37, gm39, gm40, gm41, gm1, gm12, gm15, gm16, gm17, gm18, gm19, gm20, gm21, gm24, gm25, gm30, gm34, gm35, gm38, rk0, sk0, rk9, sk9, rk16, sk16, rk18, sk18, rk19, sk19, rm1, sm1, rm12, sm12, rm15, sm15, rm16, sm16, rm17, sm17, rm18, sm18, rm19, sm19, rm20, sm20, rm21, sm21, rm24, sm24, rm25, sm25, rm30, sm30, rm34, sm34, rm35, sm35, rm38, sm38, pk1, pk2, pk3, pk4, pk10, pk11, pk12, pk13, pk14, pk15, pk17, pkr5, pkr6, pm0, pm2, pm3, pm4, pm5, pm6, pm7, pm8, pm9, pm10, pm11, pm13, pz13_0, pz13_1, pm14, pz14_0, pz14_1, pm22, pm23, pm26, pm27, pm28, pm29, pm31, pm32, pm33, pm36, pm37, pm39, pm40, pm41, pl2_0, pl2_1, pl2_2, pl3_0, pl3_1, pl3_2, g2, g3]
      rw [if_neg hc, e1]
  · rw [if_neg h0]
    simp (disch := first | omega | assumption) only [Option.bind_some, bn2_some, ii_lit, ii_neg, ii_add, ii_sub, ii_mul, ii_le, ii_lt, ii_eq, ii_ite, ii_or, ii_and, ii_bit, ii_rem, ii_div, b0_, b1_, b2_, b3_, true_and, and_true, u1_eq, u1_ne, u2_eq, u2_nk, u2_ni, uP_eq, uP_ne, gk1, gk2, gk3, gk4, gk10, gk11, gk12, gk13, gk14, gk15, gk17, gkr0, gkr7, gkr8, gkr9, gkr16, gkr18, gkr19, gkr5, gkr6, ok0, ok1, ok2, ok3, gl2_0, gl2_1, gl2_2, gl3_0, gl3_1, gl3_2, gm0, gm2, gm3, gm4, gm5, gm6, gm7, gm8, gm9, gm10, gm11, gm13, gm14, gm22, gm23, gm26, gm27, gm28, gm29, gm31, gm32, gm33, gm36, gm37, gm39, gm40, gm41, gm1, gm12, gm15, gm16, gm17, gm18, gm19, gm20, gm21, gm24, gm25, gm30, gm34, gm35, gm38, rk0, sk0, rk9, sk9, rk16, sk16, rk18, sk18, rk19, sk19, rm1, sm1, rm12, sm12, rm15, sm15, rm16, sm16, rm17, sm17, rm18, sm18, rm19, sm19, rm20, sm20, rm21, sm21, rm24, sm24, rm25, sm25, rm30, sm30, rm34, sm34, rm35, sm35, rm38, sm38, pk1, pk2, pk3, pk4, pk10, pk11, pk12, pk13, pk14, pk15, pk17, pkr5, pkr6, pm0, pm2, pm3, pm4, pm5, pm6, pm7, pm8, pm9, pm10, pm11, pm13, pz13_0, pz13_1, pm14, pz14_0, pz14_1, pm22, pm23, pm26, pm27, pm28, pm29, pm31, pm32, pm33, pm36, pm37, pm39, pm40, pm41, pl2_0, pl2_1, pl2_2, pl3_0, pl3_1, pl3_2, m_no, u1_u1]
    rw [if_neg h0]
    exact MO.ref ..
