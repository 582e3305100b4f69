/-! PLAIN 19: rounds: the component -/
set_option maxRecDepth 100000
theorem k_goes (x : Nat) (F : Nat → Int) (P : Nat → Option Nat) (A : Nat → Int → Int) (f l : Nat → Int) (a : Nat → Int → Int) (b : fk_M) {v : Nat → Int} {w sr d M : Nat} (hv : ∀ k, 0 ≤ v k ∧ v k ≤ 99) (hM : M ≤ 2700) (hd : w + sr + d ≤ M + 1) (h9 : ∀ k : Nat, k ≤ M → A 9 k = v k) : ∃ z, f_X1_goesRound (some x) (ii w) (ii d) (ii ((w : Int) + sr)) (hp x F P A f l a b) = some z ∧ ((z = ii 1 ∧ ∀ k, k < sr → v (w + k) = v (w + k + d)) ∨ (z = ii 0 ∧ ¬ ∀ k, k < sr → v (w + k) = v (w + k + d))) := by
  unfold f_X1_goesRound
  have hL := loop_fn (fun N k => f_X1_goesRound_L3 (some x) (ii d) (ii ((w : Int) + sr)) (hp x F P A f l a b) N (ii k)) (fun k => ¬ v k.toNat = v (k.toNat + d)) (fun _ => some (ii 0)) (some (ii 1)) (lo := w) (hi := (w : Int) + sr) ?_ ?_ sr fk_fuel w (by omega) (by omega) (by unfold fk_fuel; omega)
  · rw [show (f_X1_goesRound_L3 (some x) (ii d) (ii ((w : Int) + sr)) (hp x F P A f l a b) fk_fuel (ii w)) = _ from hL]
    rcases hf : fn (fun k => ¬ v k.toNat = v (k.toNat + d)) sr w with _ | j
    · refine ⟨ii 1, rfl, Or.inl ⟨rfl, fun k hk => ?_⟩⟩
      have := fn_no sr w hf ((w : Int) + k) (by omega) (by omega)
      rw [show ((w : Int) + k).toNat = w + k by omega] at this
      exact Decidable.not_not.mp this
    · obtain ⟨g1, g2, -⟩ := fn_rg sr w j hf
      refine ⟨ii 0, rfl, Or.inr ⟨rfl, fun h => g2 ?_⟩⟩
      have := h (j.toNat - w) (by omega)
      rwa [show w + (j.toNat - w) = j.toNat by omega] at this
  · intro N
    try dsimp only
    rw [f_X1_goesRound_L3]
    simp (disch := first | omega | assumption) only [Option.bind_some, bn2_some, ii_lit, ii_neg, ii_add, ii_sub, ii_mul, ii_le, ii_lt, ii_eq, ii_ite, ii_or, ii_and, ii_bit, ii_rem, ii_div, b0_, b1_, b2_, b3_, true_and, and_true, u1_eq, u1_ne, u2_eq, u2_nk, u2_ni, uP_eq, uP_ne, gk1, gk2, gk3, gk4, gk10, gk11, gk12, gk13, gk14, gk15, gk17, gkr0, gkr7, gkr8, gkr9, gkr16, gkr18, gkr19, gkr5, gkr6, ok0, ok1, ok2, ok3, gl2_0, gl2_1, gl2_2, gl3_0, gl3_1, gl3_2, gm0, gm2, gm3, gm4, gm5, gm6, gm7, gm8, gm9, gm10, gm11, gm13, gm14, gm22, gm23, gm26, gm27, gm28, gm29, gm31, gm32, gm33, gm36, gm37, gm39, gm40, gm41, gm1, gm12, gm15, gm16, gm17, gm18, gm19, gm20, gm21, gm24, gm25, gm30, gm34, gm35, gm38, rk0, sk0, rk9, sk9, rk16, sk16, rk18, sk18, rk19, sk19, rm1, sm1, rm12, sm12, rm15, sm15, rm16, sm16, rm17, sm17, rm18, sm18, rm19, sm19, rm20, sm20, rm21, sm21, rm24, sm24, rm25, sm25, rm30, sm30, rm34, sm34, rm35, sm35, rm38, sm38, pk1, pk2, pk3, pk4, pk10, pk11, pk12, pk13, pk14, pk15, pk17, pkr5, pkr6, pm0, pm2, pm3, pm4, pm5, pm6, pm7, pm8, pm9, pm10, pm11, pm13, pz13_0, pz13_1, pm14, pz14_0, pz14_1, pm22, pm23, pm26, pm27, pm28, pm29, pm31, pm32, pm33, pm36, pm37, pm39, pm40, pm41, pl2_0, pl2_1, pl2_2, pl3_0, pl3_1, pl3_2]
    rw [if_pos (by omega)]
  · intro N k k1 k2
    have e1 := h9 k.toNat (by omega)
    have e2 := h9 (k.toNat + d) (by omega)
    rw [show ((k.toNat : Nat) : Int) = k by omega] at e1
    rw [show ((k.toNat + d : Nat) : Int) = k + d by omega] at e2
    have v1 := hv k.toNat
    have v2 := hv (k.toNat + d)
    try dsimp only
    rw [f_X1_goesRound_L3]
    simp (disch := first | omega | assumption) only [Option.bind_some, bn2_some, ii_lit, ii_neg, ii_add, ii_sub, ii_mul, ii_le, ii_lt, ii_eq, ii_ite, ii_or, ii_and, ii_bit, ii_rem, ii_div, b0_, b1_, b2_, b3_, true_and, and_true, u1_eq, u1_ne, u2_eq, u2_nk, u2_ni, uP_eq, uP_ne, gk1, gk2, gk3, gk4, gk10, gk11, gk12, gk13, gk14, gk15, gk17, gkr0, gkr7, gkr8, gkr9, gkr16, gkr18, gkr19, gkr5, gkr6, ok0, ok1, ok2, ok3, gl2_0, gl2_1, gl2_2, gl3_0, gl3_1, gl3_2, gm0, gm2, gm3, gm4, gm5, gm6, gm7, gm8, gm9, gm10, gm11, gm13, gm14, gm22, gm23, gm26, gm27, gm28, gm29, gm31, gm32, gm33, gm36, gm37, gm39, gm40, gm41, gm1, gm12, gm15, gm16, gm17, gm18, gm19, gm20, gm21, gm24, gm25, gm30, gm34, gm35, gm38, rk0, sk0, rk9, sk9, rk16, sk16, rk18, sk18, rk19, sk19, rm1, sm1, rm12, sm12, rm15, sm15, rm16, sm16, rm17, sm17, rm18, sm18, rm19, sm19, rm20, sm20, rm21, sm21, rm24, sm24, rm25, sm25, rm30, sm30, rm34, sm34, rm35, sm35, rm38, sm38, pk1, pk2, pk3, pk4, pk10, pk11, pk12, pk13, pk14, pk15, pk17, pkr5, pkr6, pm0, pm2, pm3, pm4, pm5, pm6, pm7, pm8, pm9, pm10, pm11, pm13, pz13_0, pz13_1, pm14, pz14_0, pz14_1, pm22, pm23, pm26, pm27, pm28, pm29, pm31, pm32, pm33, pm36, pm37, pm39, pm40, pm41, pl2_0, pl2_1, pl2_2, pl3_0, pl3_1, pl3_2, e1, e2]
    rw [if_neg (by omega)]
    split <;> rfl
theorem k_r122 (x : Nat) (F : Nat → Int) (P : Nat → Option Nat) (A : Nat → Int → Int) (f l : Nat → Int) (a : Nat → Int → Int) (b : fk_M) {v : Nat → Int} {d M : Nat} (hv : ∀ k, 0 ≤ v k ∧ v k ≤ 99) (hM : M ≤ 2700) (h9 : ∀ k : Nat, k ≤ M → A 9 k = v k) : ∀ (n N : Nat) (F : Nat → Int), n + d ≤ M → n < N → F 10 = n → F 11 = d → ∃ F', f_X1_rounds_L122 (some x) N (hp x F P A f l a b) = some (hp x F' P A f l a b) ∧ F' 10 = fr v d n ∧ ∀ j, j ≠ 10 → F' j = F j := by
  intro n
  induction n with
  | zero =>
    intro N F hn hN h10 h11
    obtain ⟨N, rfl⟩ : ∃ M, N = M + 1 := ⟨N - 1, by omega⟩
    refine ⟨F, ?_, h10, fun _ _ => rfl⟩
    rw [f_X1_rounds_L122]
    simp (disch := first | omega | assumption) only [Option.bind_some, bn2_some, ii_lit, ii_neg, ii_add, ii_sub, ii_mul, ii_le, ii_lt, ii_eq, ii_ite, ii_or, ii_and, ii_bit, ii_rem, ii_div, b0_, b1_, b2_, b3_, true_and, and_true, u1_eq, u1_ne, u2_eq, u2_nk, u2_ni, uP_eq, uP_ne, gk1, gk2, gk3, gk4, gk10, gk11, gk12, gk13, gk14, gk15, gk17, gkr0, gkr7, gkr8, gkr9, gkr16, gkr18, gkr19, gkr5, gkr6, ok0, ok1, ok2, ok3, gl2_0, gl2_1, gl2_2, gl3_0, gl3_1, gl3_2, gm0, gm2, gm3, gm4, gm5, gm6, gm7, gm8, gm9, gm10, gm11, gm13, gm14, gm22, gm23, gm26, gm27, gm28, gm29, gm31, gm32, gm33, gm36, gm37, gm39, gm40, gm41, gm1, gm12, gm15, gm16, gm17, gm18, gm19, gm20, gm21, gm24, gm25, gm30, gm34, gm35, gm38, rk0, sk0, rk9, sk9, rk16, sk16, rk18, sk18, rk19, sk19, rm1, sm1, rm12, sm12, rm15, sm15, rm16, sm16, rm17, sm17, rm18, sm18, rm19, sm19, rm20, sm20, rm21, sm21, rm24, sm24, rm25, sm25, rm30, sm30, rm34, sm34, rm35, sm35, rm38, sm38, pk1, pk2, pk3, pk4, pk10, pk11, pk12, pk13, pk14, pk15, pk17, pkr5, pkr6, pm0, pm2, pm3, pm4, pm5, pm6, pm7, pm8, pm9, pm10, pm11, pm13, pz13_0, pz13_1, pm14, pz14_0, pz14_1, pm22, pm23, pm26, pm27, pm28, pm29, pm31, pm32, pm33, pm36, pm37, pm39, pm40, pm41, pl2_0, pl2_1, pl2_2, pl3_0, pl3_1, pl3_2, h10]
    rw [if_pos (by omega)]
  | succ n ih =>
    intro N F hn hN h10 h11
    obtain ⟨N, rfl⟩ : ∃ M, N = M + 1 := ⟨N - 1, by omega⟩
    have e1 := h9 n (by omega)
    have e2 := h9 (n + d) (by omega)
    rw [show ((n + d : Nat) : Int) = n + d by omega] at e2
    have v1 := hv n
    have v2 := hv (n + d)
    have c1 : (((n + 1 : Nat) : Int) - 1) = n := by omega
    by_cases hc : v n = v (n + d)
    · obtain ⟨F', g1, g2, g3⟩ := ih N (u1 F 10 n) (by omega) (by omega) (u1_eq ..) ((u1_ne _ _ (by omega)).trans h11)
      refine ⟨F', ?_, ?_, fun j hj => (g3 j hj).trans (u1_ne _ _ hj)⟩
      · rw [f_X1_rounds_L122, ← g1]
        simp (disch := first | omega | assumption) only [Option.bind_some, bn2_some, ii_lit, ii_neg, ii_add, ii_sub, ii_mul, ii_le, ii_lt, ii_eq, ii_ite, ii_or, ii_and, ii_bit, ii_rem, ii_div, b0_, b1_, b2_, b3_, true_and, and_true, u1_eq, u1_ne, u2_eq, u2_nk, u2_ni, uP_eq, uP_ne, gk1, gk2, gk3, gk4, gk10, gk11, gk12, gk13, gk14, gk15, gk17, gkr0, gkr7, gkr8, gkr9, gkr16, gkr18, gkr19, gkr5, gkr6, ok0, ok1, ok2, ok3, gl2_0, gl2_1, gl2_2, gl3_0, gl3_1, gl3_2, gm0, gm2, gm3, gm4, gm5, gm6, gm7, gm8, gm9, gm10, gm11, gm13, gm14, gm22, gm23, gm26, gm27, gm28, gm29, gm31, gm32, gm33, gm36, gm37, gm39, gm40, gm41, gm1, gm12, gm15, gm16, gm17, gm18, gm19, gm20, gm21, gm24, gm25, gm30, gm34, gm35, gm38, rk0, sk0, rk9, sk9, rk16, sk16, rk18, sk18, rk19, sk19, rm1, sm1, rm12, sm12, rm15, sm15, rm16, sm16, rm17, sm17, rm18, sm18, rm19, sm19, rm20, sm20, rm21, sm21, rm24, sm24, rm25, sm25, rm30, sm30, rm34, sm34, rm35, sm35, rm38, sm38, pk1, pk2, pk3, pk4, pk10, pk11, pk12, pk13, pk14, pk15, pk17, pkr5, pkr6, pm0, pm2, pm3, pm4, pm5, pm6, pm7, pm8, pm9, pm10, pm11, pm13, pz13_0, pz13_1, pm14, pz14_0, pz14_1, pm22, pm23, pm26, pm27, pm28, pm29, pm31, pm32, pm33, pm36, pm37, pm39, pm40, pm41, pl2_0, pl2_1, pl2_2, pl3_0, pl3_1, pl3_2, h10, h11, c1, e1, e2]
        rw [if_neg (by omega), if_pos hc]
      · rw [g2]
        show _ = ((if v n = v (n + d) then fr v d n else n + 1 : Nat) : Int)
        rw [if_pos hc]
    · refine ⟨F, ?_, ?_, fun _ _ => rfl⟩
      · rw [f_X1_rounds_L122]
        simp (disch := first | omega | assumption) only [Option.bind_some, bn2_some, ii_lit, ii_neg, ii_add, ii_sub, ii_mul, ii_le, ii_lt, ii_eq, ii_ite, ii_or, ii_and, ii_bit, ii_rem, ii_div, b0_, b1_, b2_, b3_, true_and, and_true, u1_eq, u1_ne, u2_eq, u2_nk, u2_ni, uP_eq, uP_ne, gk1, gk2, gk3, gk4, gk10, gk11, gk12, gk13, gk14, gk15, gk17, gkr0, gkr7, gkr8, gkr9, gkr16, gkr18, gkr19, gkr5, gkr6, ok0, ok1, ok2, ok3, gl2_0, gl2_1, gl2_2, gl3_0, gl3_1, gl3_2, gm0, gm2, gm3, gm4, gm5, gm6, gm7, gm8, gm9, gm10, gm11, gm13, gm14, gm22, gm23, gm26, gm27, gm28, gm29, gm31, gm32, gm33, gm36, gm37, gm39, gm40, gm41, gm1, gm12, gm15, gm16, gm17, gm18, gm19, gm20, gm21, gm24, gm25, gm30, gm34, gm35, gm38, rk0, sk0, rk9, sk9, rk16, sk16, rk18, sk18, rk19, sk19, rm1, sm1, rm12, sm12, rm15, sm15, rm16, sm16, rm17, sm17, rm18, sm18, rm19, sm19, rm20, sm20, rm21, sm21, rm24, sm24, rm25, sm25, rm30, sm30, rm34, sm34, rm35, sm35, rm38, sm38, pk1, pk2, pk3, pk4, pk10, pk11, pk12, pk13, pk14, pk15, pk17, pkr5, pkr6, pm0, pm2, pm3, pm4, pm5, pm6, pm7, pm8, pm9, pm10, pm11, pm13, pz13_0, pz13_1, pm14, pz14_0, pz14_1, pm22, pm23, pm26, pm27, pm28, pm29, pm31, pm32, pm33, pm36, pm37, pm39, pm40, pm41, pl2_0, pl2_1, pl2_2, pl3_0, pl3_1, pl3_2, h10, h11, c1, e1, e2]
        rw [if_neg (by omega), if_neg hc]
      · rw [h10]
        show _ = ((if v n = v (n + d) then fr v d n else n + 1 : Nat) : Int)
        rw [if_neg hc]
theorem k_r75 (x : Nat) (F : Nat → Int) (P : Nat → Option Nat) (A : Nat → Int → Int) (f l : Nat → Int) (a : Nat → Int → Int) (b : fk_M) {v : Nat → Int} {w sr d M : Nat} (hv : ∀ k, 0 ≤ v k ∧ v k ≤ 99) (hM : M ≤ 2700) (hw : w + sr + sr ≤ M) (h9 : ∀ k : Nat, k ≤ M → A 9 k = v k) (hd1 : sr % d = 0 ∧ ∀ k, k < sr → v (w + k) = v (w + k + d)) (hd2 : ∀ i, 0 < i → i < d → ¬ (sr % i = 0 ∧ ∀ k, k < sr → v (w + k) = v (w + k + i))) (hd3 : d ≤ sr) : ∀ (e i N : Nat) (F : Nat → Int), i + e = d → 1 ≤ i → e < N → F 11 = i → ∃ F', f_X1_rounds_L75 (some x) (ii w) (ii sr) N (hp x F P A f l a b) = some (hp x F' P A f l a b) ∧ F' 10 = fr v d w ∧ F' 11 = d ∧ ∀ j, j ≠ 10 → j ≠ 11 → F' j = F j := by
  intro e
  induction e with
  | zero =>
    intro i N F hi hi1 hN h11
    obtain ⟨N, rfl⟩ : ∃ M, N = M + 1 := ⟨N - 1, by omega⟩
    obtain rfl : i = d := by omega
    obtain ⟨z, g1, g2⟩ := k_goes x F P A f l a b (w := w) (sr := sr) (d := i) hv hM (by omega) h9
    rcases g2 with ⟨rfl, g2⟩ | ⟨-, g2⟩
    rotate_left
    · exact absurd hd1.2 g2
    obtain ⟨F', k1, k2, k3⟩ := k_r122 x F P A f l a b (d := i) hv hM h9 w fk_fuel (u1 F 10 w) (by omega) (by unfold fk_fuel; omega) (u1_eq ..) ((u1_ne _ _ (by omega)).trans h11)
    refine ⟨F', ?_, k2, (k3 11 (by omega)).trans ((u1_ne _ _ (by omega)).trans h11), fun j j1 j2 => (k3 j j1).trans (u1_ne _ _ j1)⟩
    have em : (sr : Int) % (i : Int) = ((sr % i : Nat) : Int) := rfl
    rw [f_X1_rounds_L75, ← k1]
    simp (disch := first | omega | assumption) only [Option.bind_some, bn2_some, ii_lit, ii_neg, ii_add, ii_sub, ii_mul, ii_le, ii_lt, ii_eq, ii_ite, ii_or, ii_and, ii_bit, ii_rem, ii_div, b0_, b1_, b2_, b3_, true_and, and_true, u1_eq, u1_ne, u2_eq, u2_nk, u2_ni, uP_eq, uP_ne, gk1, gk2, gk3, gk4, gk10, gk11, gk12, gk13, gk14, gk15, gk17, gkr0, gkr7, gkr8, gkr9, gkr16, gkr18, gkr19, gkr5, gkr6, ok0, ok1, ok2, ok3, gl2_0, gl2_1, gl2_2, gl3_0, gl3_1, gl3_2, gm0, gm2, gm3, gm4, gm5, gm6, gm7, gm8, gm9, gm10, gm11, gm13, gm14, gm22, gm23, gm26, gm27, gm28, gm29, gm31, gm32, gm33, gm36, gm37, gm39, gm40, gm41, gm1, gm12, gm15, gm16, gm17, gm18, gm19, gm20, gm21, gm24, gm25, gm30, gm34, gm35, gm38, rk0, sk0, rk9, sk9, rk16, sk16, rk18, sk18, rk19, sk19, rm1, sm1, rm12, sm12, rm15, sm15, rm16, sm16, rm17, sm17, rm18, sm18, rm19, sm19, rm20, sm20, rm21, sm21, rm24, sm24, rm25, sm25, rm30, sm30, rm34, sm34, rm35, sm35, rm38, sm38, pk1, pk2, pk3, pk4, pk10, pk11, pk12, pk13, pk14, pk15, pk17, pkr5, pkr6, pm0, pm2, pm3, pm4, pm5, pm6, pm7, pm8, pm9, pm10, pm11, pm13, pz13_0, pz13_1, pm14, pz14_0, pz14_1, pm22, pm23, pm26, pm27, pm28, pm29, pm31, pm32, pm33, pm36, pm37, pm39, pm40, pm41, pl2_0, pl2_1, pl2_2, pl3_0, pl3_1, pl3_2, h11, em, hd1.1, g1]
    rw [if_neg (by omega), if_pos (by omega), if_neg (by omega)]
  | succ e ih =>
    intro i N F hi hi1 hN h11
    obtain ⟨N, rfl⟩ : ∃ M, N = M + 1 := ⟨N - 1, by omega⟩
    obtain ⟨z, g1, g2⟩ := k_goes x F P A f l a b (w := w) (sr := sr) (d := i) hv hM (by omega) h9
    obtain ⟨F', k1, k2, k3, k4⟩ := ih (i + 1) N (u1 F 11 ((i : Int) + 1)) (by omega) (by omega) (by omega) (u1_eq ..)
    refine ⟨F', ?_, k2, k3, fun j j1 j2 => (k4 j j1 j2).trans (u1_ne _ _ j2)⟩
    have em : (sr : Int) % (i : Int) = ((sr % i : Nat) : Int) := rfl
    have ho := hd2 i hi1 (by omega)
    rw [f_X1_rounds_L75, ← k1]
    unfold f_X1_rounds_J103
    by_cases hm : sr % i = 0
    · rcases g2 with ⟨-, g2⟩ | ⟨rfl, g2⟩
      · exact absurd ⟨hm, g2⟩ ho
      simp (disch := first | omega | assumption) only [Option.bind_some, bn2_some, ii_lit, ii_neg, ii_add, ii_sub, ii_mul, ii_le, ii_lt, ii_eq, ii_ite, ii_or, ii_and, ii_bit, ii_rem, ii_div, b0_, b1_, b2_, b3_, true_and, and_true, u1_eq, u1_ne, u2_eq, u2_nk, u2_ni, uP_eq, uP_ne, gk1, gk2, gk3, gk4, gk10, gk11, gk12, gk13, gk14, gk15, gk17, gkr0, gkr7, gkr8, gkr9, gkr16, gkr18, gkr19, gkr5, gkr6, ok0, ok1, ok2, ok3, gl2_0, gl2_1, gl2_2, gl3_0, gl3_1, gl3_2, gm0, gm2, gm3, gm4, gm5, gm6, gm7, gm8, gm9, gm10, gm11, gm13, gm14, gm22, gm23, gm26, gm27, gm28, gm29, gm31, gm32, gm33, gm36, gm37, gm39, gm40, gm41, gm1, gm12, gm15, gm16, gm17, gm18, gm19, gm20, gm21, gm24, gm25, gm30, gm34, gm35, gm38, rk0, sk0, rk9, sk9, rk16, sk16, rk18, sk18, rk19, sk19, rm1, sm1, rm12, sm12, rm15, sm15, rm16, sm16, rm17, sm17, rm18, sm18, rm19, sm19, rm20, sm20, rm21, sm21, rm24, sm24, rm25, sm25, rm30, sm30, rm34, sm34, rm35, sm35, rm38, sm38, pk1, pk2, pk3, pk4, pk10, pk11, pk12, pk13, pk14, pk15, pk17, pkr5, pkr6, pm0, pm2, pm3, pm4, pm5, pm6, pm7, pm8, pm9, pm10, pm11, pm13, pz13_0, pz13_1, pm14, pz14_0, pz14_1, pm22, pm23, pm26, pm27, pm28, pm29, pm31, pm32, pm33, pm36, pm37, pm39, pm40, pm41, pl2_0, pl2_1, pl2_2, pl3_0, pl3_1, pl3_2, h11, em, hm, g1]
      rw [if_neg (by omega), if_pos (by omega), if_pos trivial]
    · have hlt : sr % i < i := Nat.mod_lt _ (by omega)
      simp (disch := first | omega | assumption) only [Option.bind_some, bn2_some, ii_lit, ii_neg, ii_add, ii_sub, ii_mul, ii_le, ii_lt, ii_eq, ii_ite, ii_or, ii_and, ii_bit, ii_rem, ii_div, b0_, b1_, b2_, b3_, true_and, and_true, u1_eq, u1_ne, u2_eq, u2_nk, u2_ni, uP_eq, uP_ne, gk1, gk2, gk3, gk4, gk10, gk11, gk12, gk13, gk14, gk15, gk17, gkr0, gkr7, gkr8, gkr9, gkr16, gkr18, gkr19, gkr5, gkr6, ok0, ok1, ok2, ok3, gl2_0, gl2_1, gl2_2, gl3_0, gl3_1, gl3_2, gm0, gm2, gm3, gm4, gm5, gm6, gm7, gm8, gm9, gm10, gm11, gm13, gm14, gm22, gm23, gm26, gm27, gm28, gm29, gm31, gm32, gm33, gm36, gm37, gm39, gm40, gm41, gm1, gm12, gm15, gm16, gm17, gm18, gm19, gm20, gm21, gm24, gm25, gm30, gm34, gm35, gm38, rk0, sk0, rk9, sk9, rk16, sk16, rk18, sk18, rk19, sk19, rm1, sm1, rm12, sm12, rm15, sm15, rm16, sm16, rm17, sm17, rm18, sm18, rm19, sm19, rm20, sm20, rm21, sm21, rm24, sm24, rm25, sm25, rm30, sm30, rm34, sm34, rm35, sm35, rm38, sm38, pk1, pk2, pk3, pk4, pk10, pk11, pk12, pk13, pk14, pk15, pk17, pkr5, pkr6, pm0, pm2, pm3, pm4, pm5, pm6, pm7, pm8, pm9, pm10, pm11, pm13, pz13_0, pz13_1, pm14, pz14_0, pz14_1, pm22, pm23, pm26, pm27, pm28, pm29, pm31, pm32, pm33, pm36, pm37, pm39, pm40, pm41, pl2_0, pl2_1, pl2_2, pl3_0, pl3_1, pl3_2, h11, em]
      rw [if_neg (by omega), if_neg (by omega)]
theorem k_r41 (x : Nat) (F : Nat → Int) (P : Nat → Option Nat) (A : Nat → Int → Int) (f l : Nat → Int) (a : Nat → Int → Int) (b : fk_M) {v : Nat → Int} {w sr M : Nat} {e : Int} (hv : ∀ k, 0 ≤ v k ∧ v k ≤ 99) (hM : M ≤ 2700) (hw : w + sr + sr ≤ M) (h9 : ∀ k : Nat, k ≤ M → A 9 k = v k) (he : 1 ≤ e) (he9 : e ≤ 9) (c : Nat) (hc : (sr : Int) = c * e) (h1 : v w = v (w + sr)) (hn : ∀ i : Nat, 0 < i → i < sr → (∃ c' : Nat, (i : Int) = c' * e) → ¬ v w = v (w + i)) : ∀ (j N : Nat) (c' i : Nat), c' + j = c → 1 ≤ c' → (i : Int) = c' * e → j < N → f_X1_rounds_L41 (some x) (ii e) (ii w) (hp x F P A f l a b) N (ii i) = f_X1_rounds_L75 (some x) (ii w) (ii sr) fk_fuel (hp x (u1 F 11 1) P A f l a b) := by
  intro j
  induction j with
  | zero =>
    intro N c' i h2 h3 h4 h5
    obtain ⟨N, rfl⟩ : ∃ M, N = M + 1 := ⟨N - 1, by omega⟩
    obtain rfl : c' = c := by omega
    obtain rfl : i = sr := by omega
    have e1 := h9 w (by omega)
    have e2 := h9 (w + i) (by omega)
    rw [show ((w + i : Nat) : Int) = w + i by omega] at e2
    have v1 := hv w
    have v2 := hv (w + i)
    rw [f_X1_rounds_L41]
    simp (disch := first | omega | assumption) only [Option.bind_some, bn2_some, ii_lit, ii_neg, ii_add, ii_sub, ii_mul, ii_le, ii_lt, ii_eq, ii_ite, ii_or, ii_and, ii_bit, ii_rem, ii_div, b0_, b1_, b2_, b3_, true_and, and_true, u1_eq, u1_ne, u2_eq, u2_nk, u2_ni, uP_eq, uP_ne, gk1, gk2, gk3, gk4, gk10, gk11, gk12, gk13, gk14, gk15, gk17, gkr0, gkr7, gkr8, gkr9, gkr16, gkr18, gkr19, gkr5, gkr6, ok0, ok1, ok2, ok3, gl2_0, gl2_1, gl2_2, gl3_0, gl3_1, gl3_2, gm0, gm2, gm3, gm4, gm5, gm6, gm7, gm8, gm9, gm10, gm11, gm13, gm14, gm22, gm23, gm26, gm27, gm28, gm29, gm31, gm32, gm33, gm36, gm37, gm39, gm40, gm41, gm1, gm12, gm15, gm16, gm17, gm18, gm19, gm20, gm21, gm24, gm25, gm30, gm34, gm35, gm38, rk0, sk0, rk9, sk9, rk16, sk16, rk18, sk18, rk19, sk19, rm1, sm1, rm12, sm12, rm15, sm15, rm16, sm16, rm17, sm17, rm18, sm18, rm19, sm19, rm20, sm20, rm21, sm21, rm24, sm24, rm25, sm25, rm30, sm30, rm34, sm34, rm35, sm35, rm38, sm38, pk1, pk2, pk3, pk4, pk10, pk11, pk12, pk13, pk14, pk15, pk17, pkr5, pkr6, pm0, pm2, pm3, pm4, pm5, pm6, pm7, pm8, pm9, pm10, pm11, pm13, pz13_0, pz13_1, pm14, pz14_0, pz14_1, pm22, pm23, pm26, pm27, pm28, pm29, pm31, pm32, pm33, pm36, pm37, pm39, pm40, pm41, pl2_0, pl2_1, pl2_2, pl3_0, pl3_1, pl3_2, e1, e2]
    rw [if_pos h1]
  | succ j ih =>
    intro N c' i h2 h3 h4 h5
    obtain ⟨N, rfl⟩ : ∃ M, N = M + 1 := ⟨N - 1, by omega⟩
    have hs : (i : Int) + e = ((i + e.toNat : Nat) : Int) := by omega
    have hm : ((c' + 1 : Nat) : Int) * e = c' * e + e := by rw [Int.natCast_add, Int.add_mul]; omega
    have hm2 : ((c' + 1 : Nat) : Int) * e ≤ c * e := Int.mul_le_mul_of_nonneg_right (by omega) (by omega)
    have hm3 : 1 * e ≤ (c' : Int) * e := Int.mul_le_mul_of_nonneg_right (by omega) (by omega)
    have hi : 0 < i ∧ i < sr := by omega
    have e1 := h9 w (by omega)
    have e2 := h9 (w + i) (by omega)
    rw [show ((w + i : Nat) : Int) = w + i by omega] at e2
    have v1 := hv w
    have v2 := hv (w + i)
    have ho := hn i hi.1 hi.2 ⟨c', h4⟩
    rw [f_X1_rounds_L41]
    simp (disch := first | omega | assumption) only [Option.bind_some, bn2_some, ii_lit, ii_neg, ii_add, ii_sub, ii_mul, ii_le, ii_lt, ii_eq, ii_ite, ii_or, ii_and, ii_bit, ii_rem, ii_div, b0_, b1_, b2_, b3_, true_and, and_true, u1_eq, u1_ne, u2_eq, u2_nk, u2_ni, uP_eq, uP_ne, gk1, gk2, gk3, gk4, gk10, gk11, gk12, gk13, gk14, gk15, gk17, gkr0, gkr7, gkr8, gkr9, gkr16, gkr18, gkr19, gkr5, gkr6, ok0, ok1, ok2, ok3, gl2_0, gl2_1, gl2_2, gl3_0, gl3_1, gl3_2, gm0, gm2, gm3, gm4, gm5, gm6, gm7, gm8, gm9, gm10, gm11, gm13, gm14, gm22, gm23, gm26, gm27, gm28, gm29, gm31, gm32, gm33, gm36, gm37, gm39, gm40, gm41, gm1, gm12, gm15, gm16, gm17, gm18, gm19, gm20, gm21, gm24, gm25, gm30, gm34, gm35, gm38, rk0, sk0, rk9, sk9, rk16, sk16, rk18, sk18, rk19, sk19, rm1, sm1, rm12, sm12, rm15, sm15, rm16, sm16, rm17, sm17, rm18, sm18, rm19, sm19, rm20, sm20, rm21, sm21, rm24, sm24, rm25, sm25, rm30, sm30, rm34, sm34, rm35, sm35, rm38, sm38, pk1, pk2, pk3, pk4, pk10, pk11, pk12, pk13, pk14, pk15, pk17, pkr5, pkr6, pm0, pm2, pm3, pm4, pm5, pm6, pm7, pm8, pm9, pm10, pm11, pm13, pz13_0, pz13_1, pm14, pz14_0, pz14_1, pm22, pm23, pm26, pm27, pm28, pm29, pm31, pm32, pm33, pm36, pm37, pm39, pm40, pm41, pl2_0, pl2_1, pl2_2, pl3_0, pl3_1, pl3_2, e1, e2]
    rw [if_neg ho, hs]
    exact ih N (c' + 1) (i + e.toNat) (by omega) (by omega) (by omega) (by omega)
theorem k_rounds (x : Nat) (F : Nat → Int) (P : Nat → Option Nat) (A : Nat → Int → Int) (f l : Nat → Int) (a : Nat → Int → Int) (b : fk_M) {q lw hk : Int → Nat} {pa sg un l5 l6 s1 s2 s3 : Nat} {ρ τ σ : Int → Int} (hR : Rg ρ τ σ) (hA : Api x P b ρ τ σ q lw hk pa sg un l5 l6 s1 s2 s3) {p : Int} (h0 : 0 ≤ p) (h1 : p < ρ 2) {sf sr d rf : Nat} (hz : Rall ρ σ p sf sr d rf) : ∃ F' A' M, f_X1_rounds (some x) (ii p) (hp x F P A f l a b) = some (hp x F' P A' f l a b) ∧ F' 10 = rf ∧ F' 11 = d ∧ (∀ k : Nat, k ≤ M → A' 9 k = ts ρ σ p k) ∧ sf + 2 * sr ≤ M ∧ M ≤ 2700 ∧ (∀ j, j ≠ 10 → j ≠ 11 → F' j = F j) ∧ (∀ j, j ≠ 9 → A' j = A j) := by
  obtain ⟨z1, z2, z3, z4, z5, z6, -, -⟩ := hz
  have hw := hR.wd
  have hq := hR.pr h0 h1
  have hev := ev_rg hR h0 h1
  have hv : ∀ k, 0 ≤ ts ρ σ p k ∧ ts ρ σ p k ≤ 99 := fun k => by
    have := ts_rg hR h0 h1 k
    omega
  obtain ⟨S, hS⟩ : ∃ S : Nat, (S : Int) = ev ρ p * (ρ 0 + 1) := ⟨(ev ρ p * (ρ 0 + 1)).toNat, Int.toNat_of_nonneg (Int.mul_nonneg (by omega) (by omega))⟩
  have hS9 : (S : Int) ≤ 9 * 100 := by rw [hS]; exact Int.mul_le_mul (by omega) (by omega) (by omega) (by omega)
  rw [← hS] at z2
  have hsr0 := z1.1
  -- sr is a number of contracts
  have hdv : ev ρ p ∣ (sr : Int) := by
    have h2 : (σ 35 + (sf : Int)) % ev ρ p = (σ 35 + ((sf + sr : Nat) : Int)) % ev ρ p := z1.2.1.2
    have h3 := Int.emod_emod_of_dvd (σ 35 + ((sf + sr : Nat) : Int) - (σ 35 + (sf : Int))) (Int.dvd_refl (ev ρ p))
    have h4 : (σ 35 + ((sf + sr : Nat) : Int) - (σ 35 + (sf : Int))) % ev ρ p = 0 := by
      rw [Int.sub_emod, ← h2, Int.sub_self, Int.zero_emod]
    have h5 := Int.dvd_of_emod_eq_zero h4
    rwa [show σ 35 + ((sf + sr : Nat) : Int) - (σ 35 + (sf : Int)) = sr by omega] at h5
  obtain ⟨c, hc⟩ := hdv
  have hc0 : 0 < c := by
    by_cases h : c ≤ 0
    · have := Int.mul_nonpos_of_nonneg_of_nonpos (show 0 ≤ ev ρ p by omega) h
      omega
    · omega
  have hcs : c ≤ sr := by
    have : 1 * c ≤ ev ρ p * c := Int.mul_le_mul_of_nonneg_right (by omega) (by omega)
    omega
  obtain ⟨cn, rfl⟩ : ∃ cn : Nat, c = cn := ⟨c.toNat, by omega⟩
  obtain ⟨A', g1, g2, g3⟩ := k_tellsOn x F P A f l a b hR hA (p := p) (n := 3 * S) h0 h1 (by omega)
  have hper : ts ρ σ p S = ts ρ σ p (S + sr) := (z1.per (fun i j => ts_D i j) (k := S) (by omega)).1
  have hnot : ∀ i : Nat, 0 < i → i < sr → (∃ c' : Nat, (i : Int) = c' * ev ρ p) → ¬ ts ρ σ p S = ts ρ σ p (S + i) := by
    intro i i0 i1 ⟨c', hc'⟩ he
    have hsm : Sm (ts ρ σ p) (rs ρ σ p) S (S + i) := by
      refine ⟨he, ?_⟩
      show (σ 35 + (S : Int)) % ev ρ p = (σ 35 + ((S + i : Nat) : Int)) % ev ρ p
      rw [show ((S + i : Nat) : Int) = S + i by omega, ← Int.add_assoc, hc', Int.mul_comm, Int.add_mul_emod_self_left]
    have hdd := z1.dvd (fun i j => ts_D i j) (k := S) (by omega) hsm
    have := Nat.le_of_dvd i0 hdd
    omega
  have hrn : ∀ i, Rn (ts ρ σ p) sf sr i ↔ (sr % i = 0 ∧ ∀ k, k < sr → ts ρ σ p (S + k) = ts ρ σ p (S + k + i)) := fun i => z1.rnw (fun i j => ts_D i j) (by omega)
  obtain ⟨F', q1, q2, q3, q4⟩ := k_r75 x F P A' f l a b (v := ts ρ σ p) (w := S) (sr := sr) (d := d) (M := 3 * S) hv (by omega) (by omega) g2 ((hrn d).mp z4.2.1) (fun i i0 i1 h => z4.2.2 i i0 i1 ((hrn i).mpr h)) z5 (d - 1) 1 fk_fuel (u1 F 11 1) (by have := z4.1; omega) (by omega) (by unfold fk_fuel; omega) (u1_eq ..)
  refine ⟨F', A', 3 * S, ?_, ?_, q3, g2, by omega, by omega, fun j j1 j2 => (q4 j j1 j2).trans (u1_ne _ _ j2), g3⟩
  · unfold f_X1_rounds
    rw [← q1, ← k_r41 x F P A' f l a b (e := ev ρ p) hv (M := 3 * S) (by omega) (by omega) g2 hev.1 hev.2 cn (by rw [hc, Int.mul_comm]) hper hnot (cn - 1) fk_fuel 1 (ev ρ p).toNat (by omega) (by omega) (by omega) (by unfold fk_fuel; omega)]
    have em : max 1 (ρ (13 + p)) = ev ρ p := by
      unfold ev
      split <;> omega
    have e3 : 2 * (ev ρ p * (ρ 0 + 1)) + ev ρ p * (ρ 0 + 1) = ((3 * S : Nat) : Int) := by rw [← hS]; omega
    have e4 : ((ev ρ p).toNat : Int) = ev ρ p := by omega
    obtain ⟨KP5, KP6, K1, K2, K3, K4, K5, K6, K7, K8, K9, K10, K11, K12, K13, K14, K15, K16, K17, K18, K19, K20, K21, K22, K23, K24, K25, K26, K27, K28, K29, K30, K31⟩ := hA
    simp (disch := first | omega | assumption) only [Option.bind_some, bn2_some, ii_lit, ii_neg, ii_add, ii_sub, ii_mul, ii_le, ii_lt, ii_eq, ii_ite, ii_or, ii_and, ii_bit, ii_rem, ii_div, b0_, b1_, b2_, b3_, true_and, and_true, u1_eq, u1_ne, u2_eq, u2_nk, u2_ni, uP_eq, uP_ne, gk1, gk2, gk3, gk4, gk10, gk11, gk12, gk13, gk14, gk15, gk17, gkr0, gkr7, gkr8, gkr9, gkr16, gkr18, gkr19, gkr5, gkr6, ok0, ok1, ok2, ok3, gl2_0, gl2_1, gl2_2, gl3_0, gl3_1, gl3_2, gm0, gm2, gm3, gm4, gm5, gm6, gm7, gm8, gm9, gm10, gm11, gm13, gm14, gm22, gm23, gm26, gm27, gm28, gm29, gm31, gm32, gm33, gm36, gm37, gm39, gm40, gm41, gm1, gm12, gm15, gm16, gm17, gm18, gm19, gm20, gm21, gm24, gm25, gm30, gm34, gm35, gm38, rk0, sk0, rk9, sk9, rk16, sk16, rk18, sk18, rk19, sk19, rm1, sm1, rm12, sm12, rm15, sm15, rm16, sm16, rm17, sm17, rm18, sm18, rm19, sm19, rm20, sm20, rm21, sm21, rm24, sm24, rm25, sm25, rm30, sm30, rm34, sm34, rm35, sm35, rm38, sm38, pk1, pk2, pk3, pk4, pk10, pk11, pk12, pk13, pk14, pk15, pk17, pkr5, pkr6, pm0, pm2, pm3, pm4, pm5, pm6, pm7, pm8, pm9, pm10, pm11, pm13, pz13_0, pz13_1, pm14, pz14_0, pz14_1, pm22, pm23, pm26, pm27, pm28, pm29, pm31, pm32, pm33, pm36, pm37, pm39, pm40, pm41, pl2_0, pl2_1, pl2_2, pl3_0, pl3_1, pl3_2, KP5, K2, K3, K10, ii_max, em, e3, e4, g1]
    rw [← hS]
  · rw [q2, z6, show S = sf + (S - sf) by omega, fr_up (fun k hk => z1.rnd (fun i j => ts_D i j) z4 k hk)]
theorem ke.rn {F F' : Nat → Int} (h : ∀ k, k ≠ 10 → k ≠ 11 → F' k = F k) : ke F F' := ⟨h 1 (by omega) (by omega), h 2 (by omega) (by omega), h 100 (by omega) (by omega), h 101 (by omega) (by omega), h 110 (by omega) (by omega), h 111 (by omega) (by omega)⟩
theorem k_rnd {x : Nat} {F : Nat → Int} {P : Nat → Option Nat} {A : Nat → Int → Int} {f l : Nat → Int} {a : Nat → Int → Int} {b : fk_M} {q lw hk : Int → Nat} {pa sg un l5 l6 s1 s2 s3 : Nat} {ρ τ σ : Int → Int} (hR : Rg ρ τ σ) (hA : Api x P b ρ τ σ q lw hk pa sg un l5 l6 s1 s2 s3) {p : Int} (h0 : 0 ≤ p) (h1 : p < ρ 2) {r : Int} {res : Option (Int32 × fk_M)} (hx : ∀ sf sr d rf F' A' M, Rall ρ σ p sf sr d rf → f_X1_rounds (some x) (ii p) (hp x F P A f l a b) = some (hp x F' P A' f l a b) → F' 10 = rf → F' 11 = d → (∀ k : Nat, k ≤ M → A' 9 k = ts ρ σ p k) → sf + 2 * sr ≤ M → M ≤ 2700 → (∀ k, 0 ≤ ts ρ σ p k ∧ ts ρ σ p k ≤ ρ 0) → 0 < d → d ≤ sr → rf ≤ sf → rz ρ σ p = (rf, d) → (∀ k, rf ≤ k → ts ρ σ p k = ts ρ σ p (k + d)) → res = some (ii r, hp x (Fo F' 0) P A' f l a b)) : KO x F P A f l a b r 0 res := by
  obtain ⟨sf, sr, d, rf, hz⟩ := Rall.ex hR h0 h1
  obtain ⟨F', A', M, g1, g2, g3, g4, g5, g6, g7, g8⟩ := k_rounds x F P A f l a b hR hA h0 h1 hz
  have := hx sf sr d rf F' A' M hz g1 g2 g3 g4 g5 g6 (fun k => ts_rg hR h0 h1 k) hz.2.2.2.1.1 hz.2.2.2.2.1 hz.2.2.2.2.2.2.1 hz.2.2.2.2.2.2.2 (fun k hk => hz.1.frp (fun i j => ts_D i j) hz.2.2.2.1 k (by rw [← hz.2.2.2.2.2.1]; exact hk))
  exact KO.mk F' A' (ke.rn g7) (g8 0 (by omega)) this
theorem k_settles (x : Nat) (F : Nat → Int) (P : Nat → Option Nat) (A : Nat → Int → Int) (f l : Nat → Int) (a : Nat → Int → Int) (b : fk_M) {h : Int} {ρ τ σ : Int → Int} (hK : Kq x P b h ρ τ σ) {p : Int} (hp0 : rg p) : KO x F P A f l a b (s_settles h ρ σ p) (if (h = 1 ∧ 0 ≤ p ∧ p < ρ 2) then 0 else 1) (f_X1_settles (some x) (ii p) (hp x F P A f l a b)) := by
  unfold f_X1_settles s_settles
  rw [ok0, Option.bind_some, k_isPair x F P A f l a b hp0 hK, Option.bind_some]
  by_cases h0 : (h = 1 ∧ 0 ≤ p ∧ p < ρ 2)
  rotate_left
  · rw [if_neg h0, if_neg h0, if_neg h0, if_pos (show ii 0 = 0 by decide)]
    simp (disch := first | omega | assumption) only [Option.bind_some, bn2_some, ii_lit, ii_neg, ii_add, ii_sub, ii_mul, ii_le, ii_lt, ii_eq, ii_ite, ii_or, ii_and, ii_bit, ii_rem, ii_div, b0_, b1_, b2_, b3_, true_and, and_true, u1_eq, u1_ne, u2_eq, u2_nk, u2_ni, uP_eq, uP_ne, gk1, gk2, gk3, gk4, gk10, gk11, gk12, gk13, gk14, gk15, gk17, gkr0, gkr7, gkr8, gkr9, gkr16, gkr18, gkr19, gkr5, gkr6, ok0, ok1, ok2, ok3, gl2_0, gl2_1, gl2_2, gl3_0, gl3_1, gl3_2, gm0, gm2, gm3, gm4, gm5, gm6, gm7, gm8, gm9, gm10, gm11, gm13, gm14, gm22, gm23, gm26, gm27, gm28, gm29, gm31, gm32, gm33, gm36, gm37, gm39, gm40, gm41, gm1, gm12, gm15, gm16, gm17, gm18, gm19, gm20, gm21, gm24, gm25, gm30, gm34, gm35, gm38, rk0, sk0, rk9, sk9, rk16, sk16, rk18, sk18, rk19, sk19, rm1, sm1, rm12, sm12, rm15, sm15, rm16, sm16, rm17, sm17, rm18, sm18, rm19, sm19, rm20, sm20, rm21, sm21, rm24, sm24, rm25, sm25, rm30, sm30, rm34, sm34, rm35, sm35, rm38, sm38, pk1, pk2, pk3, pk4, pk10, pk11, pk12, pk13, pk14, pk15, pk17, pkr5, pkr6, pm0, pm2, pm3, pm4, pm5, pm6, pm7, pm8, pm9, pm10, pm11, pm13, pz13_0, pz13_1, pm14, pz14_0, pz14_1, pm22, pm23, pm26, pm27, pm28, pm29, pm31, pm32, pm33, pm36, pm37, pm39, pm40, pm41, pl2_0, pl2_1, pl2_2, pl3_0, pl3_1, pl3_2, k_refused]
    exact KO.ref ..
  rw [if_pos h0, if_pos h0, if_pos h0, if_neg (show ¬ ii 1 = 0 by decide)]
  obtain ⟨rfl, hp1, hp2⟩ := h0
  obtain ⟨hh, -⟩ | ⟨-, hR, q, lw, hk, pa, sg, un, l5, l6, s1, s2, s3, hA⟩ := hK
  · omega
  have hw := hR.wd
  have hq := hR.pr hp1 hp2
  refine k_rnd hR hA hp1 hp2 (fun sf sr d rf F' A' M hz g1 g2 g3 g4 b1 b2 hv b3 b4 b5 b6 b7 => ?_)
  rw [b6]
  simp (disch := first | omega | assumption) only [Option.bind_some, bn2_some, ii_lit, ii_neg, ii_add, ii_sub, ii_mul, ii_le, ii_lt, ii_eq, ii_ite, ii_or, ii_and, ii_bit, ii_rem, ii_div, b0_, b1_, b2_, b3_, true_and, and_true, u1_eq, u1_ne, u2_eq, u2_nk, u2_ni, uP_eq, uP_ne, gk1, gk2, gk3, gk4, gk10, gk11, gk12, gk13, gk14, gk15, gk17, gkr0, gkr7, gkr8, gkr9, gkr16, gkr18, gkr19, gkr5, gkr6, ok0, ok1, ok2, ok3, gl2_0, gl2_1, gl2_2, gl3_0, gl3_1, gl3_2, gm0, gm2, gm3, gm4, gm5, gm6, gm7, gm8, gm9, gm10, gm11, gm13, gm14, gm22, gm23, gm26, gm27, gm28, gm29, gm31, gm32, gm33, gm36, gm37, gm39, gm40, gm41, gm1, gm12, gm15, gm16, gm17, gm18, gm19, gm20, gm21, gm24, gm25, gm30, gm34, gm35, gm38, rk0, sk0, rk9, sk9, rk16, sk16, rk18, sk18, rk19, sk19, rm1, sm1, rm12, sm12, rm15, sm15, rm16, sm16, rm17, sm17, rm18, sm18, rm19, sm19, rm20, sm20, rm21, sm21, rm24, sm24, rm25, sm25, rm30, sm30, rm34, sm34, rm35, sm35, rm38, sm38, pk1, pk2, pk3, pk4, pk10, pk11, pk12, pk13, pk14, pk15, pk17, pkr5, pkr6, pm0, pm2, pm3, pm4, pm5, pm6, pm7, pm8, pm9, pm10, pm11, pm13, pz13_0, pz13_1, pm14, pz14_0, pz14_1, pm22, pm23, pm26, pm27, pm28, pm29, pm31, pm32, pm33, pm36, pm37, pm39, pm40, pm41, pl2_0, pl2_1, pl2_2, pl3_0, pl3_1, pl3_2, g1, g2, k_well]
theorem k_round (x : Nat) (F : Nat → Int) (P : Nat → Option Nat) (A : Nat → Int → Int) (f l : Nat → Int) (a : Nat → Int → Int) (b : fk_M) {h : Int} {ρ τ σ : Int → Int} (hK : Kq x P b h ρ τ σ) {p : Int} (hp0 : rg p) : KO x F P A f l a b (s_round h ρ σ p) (if (h = 1 ∧ 0 ≤ p ∧ p < ρ 2) then 0 else 1) (f_X1_round (some x) (ii p) (hp x F P A f l a b)) := by
  unfold f_X1_round s_round
  rw [ok0, Option.bind_some, k_isPair x F P A f l a b hp0 hK, Option.bind_some]
  by_cases h0 : (h = 1 ∧ 0 ≤ p ∧ p < ρ 2)
  rotate_left
  · rw [if_neg h0, if_neg h0, if_neg h0, if_pos (show ii 0 = 0 by decide)]
    simp (disch := first | omega | assumption) only [Option.bind_some, bn2_some, ii_lit, ii_neg, ii_add, ii_sub, ii_mul, ii_le, ii_lt, ii_eq, ii_ite, ii_or, ii_and, ii_bit, ii_rem, ii_div, b0_, b1_, b2_, b3_, true_and, and_true, u1_eq, u1_ne, u2_eq, u2_nk, u2_ni, uP_eq, uP_ne, gk1, gk2, gk3, gk4, gk10, gk11, gk12, gk13, gk14, gk15, gk17, gkr0, gkr7, gkr8, gkr9, gkr16, gkr18, gkr19, gkr5, gkr6, ok0, ok1, ok2, ok3, gl2_0, gl2_1, gl2_2, gl3_0, gl3_1, gl3_2, gm0, gm2, gm3, gm4, gm5, gm6, gm7, gm8, gm9, gm10, gm11, gm13, gm14, gm22, gm23, gm26, gm27, gm28, gm29, gm31, gm32, gm33, gm36, gm37, gm39, gm40, gm41, gm1, gm12, gm15, gm16, gm17, gm18, gm19, gm20, gm21, gm24, gm25, gm30, gm34, gm35, gm38, rk0, sk0, rk9, sk9, rk16, sk16, rk18, sk18, rk19, sk19, rm1, sm1, rm12, sm12, rm15, sm15, rm16, sm16, rm17, sm17, rm18, sm18, rm19, sm19, rm20, sm20, rm21, sm21, rm24, sm24, rm25, sm25, rm30, sm30, rm34, sm34, rm35, sm35, rm38, sm38, pk1, pk2, pk3, pk4, pk10, pk11, pk12, pk13, pk14, pk15, pk17, pkr5, pkr6, pm0, pm2, pm3, pm4, pm5, pm6, pm7, pm8, pm9, pm10, pm11, pm13, pz13_0, pz13_1, pm14, pz14_0, pz14_1, pm22, pm23, pm26, pm27, pm28, pm29, pm31, pm32, pm33, pm36, pm37, pm39, pm40, pm41, pl2_0, pl2_1, pl2_2, pl3_0, pl3_1, pl3_2, k_refused]
    exact KO.ref ..
  rw [if_pos h0, if_pos h0, if_pos h0, if_neg (show ¬ ii 1 = 0 by decide)]
  obtain ⟨rfl, hp1, hp2⟩ := h0
  obtain ⟨hh, -⟩ | ⟨-, hR, q, lw, hk, pa, sg, un, l5, l6, s1, s2, s3, hA⟩ := hK
  · omega
  have hw := hR.wd
  have hq := hR.pr hp1 hp2
  refine k_rnd hR hA hp1 hp2 (fun sf sr d rf F' A' M hz g1 g2 g3 g4 b1 b2 hv b3 b4 b5 b6 b7 => ?_)
  rw [b6]
  simp (disch := first | omega | assumption) only [Option.bind_some, bn2_some, ii_lit, ii_neg, ii_add, ii_sub, ii_mul, ii_le, ii_lt, ii_eq, ii_ite, ii_or, ii_and, ii_bit, ii_rem, ii_div, b0_, b1_, b2_, b3_, true_and, and_true, u1_eq, u1_ne, u2_eq, u2_nk, u2_ni, uP_eq, uP_ne, gk1, gk2, gk3, gk4, gk10, gk11, gk12, gk13, gk14, gk15, gk17, gkr0, gkr7, gkr8, gkr9, gkr16, gkr18, gkr19, gkr5, gkr6, ok0, ok1, ok2, ok3, gl2_0, gl2_1, gl2_2, gl3_0, gl3_1, gl3_2, gm0, gm2, gm3, gm4, gm5, gm6, gm7, gm8, gm9, gm10, gm11, gm13, gm14, gm22, gm23, gm26, gm27, gm28, gm29, gm31, gm32, gm33, gm36, gm37, gm39, gm40, gm41, gm1, gm12, gm15, gm16, gm17, gm18, gm19, gm20, gm21, gm24, gm25, gm30, gm34, gm35, gm38, rk0, sk0, rk9, sk9, rk16, sk16, rk18, sk18, rk19, sk19, rm1, sm1, rm12, sm12, rm15, sm15, rm16, sm16, rm17, sm17, rm18, sm18, rm19, sm19, rm20, sm20, rm21, sm21, rm24, sm24, rm25, sm25, rm30, sm30, rm34, sm34, rm35, sm35, rm38, sm38, pk1, pk2, pk3, pk4, pk10, pk11, pk12, pk13, pk14, pk15, pk17, pkr5, pkr6, pm0, pm2, pm3, pm4, pm5, pm6, pm7, pm8, pm9, pm10, pm11, pm13, pz13_0, pz13_1, pm14, pz14_0, pz14_1, pm22, pm23, pm26, pm27, pm28, pm29, pm31, pm32, pm33, pm36, pm37, pm39, pm40, pm41, pl2_0, pl2_1, pl2_2, pl3_0, pl3_1, pl3_2, g1, g3, k_well]
theorem k_rm23 (x : Nat) (F : Nat → Int) (P : Nat → Option Nat) (A : Nat → Int → Int) (f l : Nat → Int) (a : Nat → Int → Int) (b : fk_M) {v : Nat → Int} {rf d M : Nat} {W : Int} (hv : ∀ k, 0 ≤ v k ∧ v k ≤ W) (hW : W ≤ 99) (h9 : ∀ k : Nat, k ≤ M → A 9 k = v k) (hM : M ≤ 2700) (hd : rf + d ≤ M) (h10 : F 10 = rf) (h11 : F 11 = d) : f_X1_roundMost_L23 (some x) (hp x F P A f l a b) fk_fuel (ii 0) (ii 0) = some (ii (itr (fun u k => max u (v (rf + k.toNat))) d 0 0), hp x (Fo F 0) P A f l a b) := by
  have hW0 := hv 0
  refine (loop_it (fun N u k => f_X1_roundMost_L23 (some x) (hp x F P A f l a b) N (ii u) (ii k)) (fun u k => max u (v (rf + k.toNat))) (fun u => some (ii u, hp x (Fo F 0) P A f l a b)) (fun u _ => 0 ≤ u ∧ u ≤ W) (lo := 0) (hi := d) ?_ ?_ d fk_fuel 0 0 (by omega) (by omega) (by unfold fk_fuel; omega) (by omega)).1
  · intro N u hu
    try dsimp only
    rw [f_X1_roundMost_L23]
    simp (disch := first | omega | assumption) only [Option.bind_some, bn2_some, ii_lit, ii_neg, ii_add, ii_sub, ii_mul, ii_le, ii_lt, ii_eq, ii_ite, ii_or, ii_and, ii_bit, ii_rem, ii_div, b0_, b1_, b2_, b3_, true_and, and_true, u1_eq, u1_ne, u2_eq, u2_nk, u2_ni, uP_eq, uP_ne, gk1, gk2, gk3, gk4, gk10, gk11, gk12, gk13, gk14, gk15, gk17, gkr0, gkr7, gkr8, gkr9, gkr16, gkr18, gkr19, gkr5, gkr6, ok0, ok1, ok2, ok3, gl2_0, gl2_1, gl2_2, gl3_0, gl3_1, gl3_2, gm0, gm2, gm3, gm4, gm5, gm6, gm7, gm8, gm9, gm10, gm11, gm13, gm14, gm22, gm23, gm26, gm27, gm28, gm29, gm31, gm32, gm33, gm36, gm37, gm39, gm40, gm41, gm1, gm12, gm15, gm16, gm17, gm18, gm19, gm20, gm21, gm24, gm25, gm30, gm34, gm35, gm38, rk0, sk0, rk9, sk9, rk16, sk16, rk18, sk18, rk19, sk19, rm1, sm1, rm12, sm12, rm15, sm15, rm16, sm16, rm17, sm17, rm18, sm18, rm19, sm19, rm20, sm20, rm21, sm21, rm24, sm24, rm25, sm25, rm30, sm30, rm34, sm34, rm35, sm35, rm38, sm38, pk1, pk2, pk3, pk4, pk10, pk11, pk12, pk13, pk14, pk15, pk17, pkr5, pkr6, pm0, pm2, pm3, pm4, pm5, pm6, pm7, pm8, pm9, pm10, pm11, pm13, pz13_0, pz13_1, pm14, pz14_0, pz14_1, pm22, pm23, pm26, pm27, pm28, pm29, pm31, pm32, pm33, pm36, pm37, pm39, pm40, pm41, pl2_0, pl2_1, pl2_2, pl3_0, pl3_1, pl3_2, h11, k_well]
    rw [if_pos (by omega)]
  · intro N u k k1 k2 hu
    have e1 := h9 (rf + k.toNat) (by omega)
    rw [show ((rf + k.toNat : Nat) : Int) = rf + k by omega] at e1
    have v1 := hv (rf + k.toNat)
    refine ⟨by (try dsimp only); omega, ?_⟩
    try dsimp only
    rw [f_X1_roundMost_L23]
    simp (disch := first | omega | assumption) only [Option.bind_some, bn2_some, ii_lit, ii_neg, ii_add, ii_sub, ii_mul, ii_le, ii_lt, ii_eq, ii_ite, ii_or, ii_and, ii_bit, ii_rem, ii_div, b0_, b1_, b2_, b3_, true_and, and_true, u1_eq, u1_ne, u2_eq, u2_nk, u2_ni, uP_eq, uP_ne, gk1, gk2, gk3, gk4, gk10, gk11, gk12, gk13, gk14, gk15, gk17, gkr0, gkr7, gkr8, gkr9, gkr16, gkr18, gkr19, gkr5, gkr6, ok0, ok1, ok2, ok3, gl2_0, gl2_1, gl2_2, gl3_0, gl3_1, gl3_2, gm0, gm2, gm3, gm4, gm5, gm6, gm7, gm8, gm9, gm10, gm11, gm13, gm14, gm22, gm23, gm26, gm27, gm28, gm29, gm31, gm32, gm33, gm36, gm37, gm39, gm40, gm41, gm1, gm12, gm15, gm16, gm17, gm18, gm19, gm20, gm21, gm24, gm25, gm30, gm34, gm35, gm38, rk0, sk0, rk9, sk9, rk16, sk16, rk18, sk18, rk19, sk19, rm1, sm1, rm12, sm12, rm15, sm15, rm16, sm16, rm17, sm17, rm18, sm18, rm19, sm19, rm20, sm20, rm21, sm21, rm24, sm24, rm25, sm25, rm30, sm30, rm34, sm34, rm35, sm35, rm38, sm38, pk1, pk2, pk3, pk4, pk10, pk11, pk12, pk13, pk14, pk15, pk17, pkr5, pkr6, pm0, pm2, pm3, pm4, pm5, pm6, pm7, pm8, pm9, pm10, pm11, pm13, pz13_0, pz13_1, pm14, pz14_0, pz14_1, pm22, pm23, pm26, pm27, pm28, pm29, pm31, pm32, pm33, pm36, pm37, pm39, pm40, pm41, pl2_0, pl2_1, pl2_2, pl3_0, pl3_1, pl3_2, h10, h11, e1, ii_max]
    rw [if_neg (by omega)]
theorem k_rl29 (x : Nat) (F : Nat → Int) (P : Nat → Option Nat) (A : Nat → Int → Int) (f l : Nat → Int) (a : Nat → Int → Int) (b : fk_M) {v : Nat → Int} {rf d M : Nat} {W : Int} (hv : ∀ k, 0 ≤ v k ∧ v k ≤ W) (hW : W ≤ 99) (h9 : ∀ k : Nat, k ≤ M → A 9 k = v k) (hM : M ≤ 2700) (hd : rf + d ≤ M) (h10 : F 10 = rf) (h11 : F 11 = d) : f_X1_roundLeast_L29 (some x) (hp x F P A f l a b) fk_fuel (ii W) (ii 0) = some (ii (itr (fun u k => min u (v (rf + k.toNat))) d 0 W), hp x (Fo F 0) P A f l a b) := by
  have hW0 := hv 0
  refine (loop_it (fun N u k => f_X1_roundLeast_L29 (some x) (hp x F P A f l a b) N (ii u) (ii k)) (fun u k => min u (v (rf + k.toNat))) (fun u => some (ii u, hp x (Fo F 0) P A f l a b)) (fun u _ => 0 ≤ u ∧ u ≤ W) (lo := 0) (hi := d) ?_ ?_ d fk_fuel W 0 (by omega) (by omega) (by unfold fk_fuel; omega) (by omega)).1
  · intro N u hu
    try dsimp only
    rw [f_X1_roundLeast_L29]
    simp (disch := first | omega | assumption) only [Option.bind_some, bn2_some, ii_lit, ii_neg, ii_add, ii_sub, ii_mul, ii_le, ii_lt, ii_eq, ii_ite, ii_or, ii_and, ii_bit, ii_rem, ii_div, b0_, b1_, b2_, b3_, true_and, and_true, u1_eq, u1_ne, u2_eq, u2_nk, u2_ni, uP_eq, uP_ne, gk1, gk2, gk3, gk4, gk10, gk11, gk12, gk13, gk14, gk15, gk17, gkr0, gkr7, gkr8, gkr9, gkr16, gkr18, gkr19, gkr5, gkr6, ok0, ok1, ok2, ok3, gl2_0, gl2_1, gl2_2, gl3_0, gl3_1, gl3_2, gm0, gm2, gm3, gm4, gm5, gm6, gm7, gm8, gm9, gm10, gm11, gm13, gm14, gm22, gm23, gm26, gm27, gm28, gm29, gm31, gm32, gm33, gm36, gm37, gm39, gm40, gm41, gm1, gm12, gm15, gm16, gm17, gm18, gm19, gm20, gm21, gm24, gm25, gm30, gm34, gm35, gm38, rk0, sk0, rk9, sk9, rk16, sk16, rk18, sk18, rk19, sk19, rm1, sm1, rm12, sm12, rm15, sm15, rm16, sm16, rm17, sm17, rm18, sm18, rm19, sm19, rm20, sm20, rm21, sm21, rm24, sm24, rm25, sm25, rm30, sm30, rm34, sm34, rm35, sm35, rm38, sm38, pk1, pk2, pk3, pk4, pk10, pk11, pk12, pk13, pk14, pk15, pk17, pkr5, pkr6, pm0, pm2, pm3, pm4, pm5, pm6, pm7, pm8, pm9, pm10, pm11, pm13, pz13_0, pz13_1, pm14, pz14_0, pz14_1, pm22, pm23, pm26, pm27, pm28, pm29, pm31, pm32, pm33, pm36, pm37, pm39, pm40, pm41, pl2_0, pl2_1, pl2_2, pl3_0, pl3_1, pl3_2, h11, k_well]
    rw [if_pos (by omega)]
  · intro N u k k1 k2 hu
    have e1 := h9 (rf + k.toNat) (by omega)
    rw [show ((rf + k.toNat : Nat) : Int) = rf + k by omega] at e1
    have v1 := hv (rf + k.toNat)
    refine ⟨by (try dsimp only); omega, ?_⟩
    try dsimp only
    rw [f_X1_roundLeast_L29]
    simp (disch := first | omega | assumption) only [Option.bind_some, bn2_some, ii_lit, ii_neg, ii_add, ii_sub, ii_mul, ii_le, ii_lt, ii_eq, ii_ite, ii_or, ii_and, ii_bit, ii_rem, ii_div, b0_, b1_, b2_, b3_, true_and, and_true, u1_eq, u1_ne, u2_eq, u2_nk, u2_ni, uP_eq, uP_ne, gk1, gk2, gk3, gk4, gk10, gk11, gk12, gk13, gk14, gk15, gk17, gkr0, gkr7, gkr8, gkr9, gkr16, gkr18, gkr19, gkr5, gkr6, ok0, ok1, ok2, ok3, gl2_0, gl2_1, gl2_2, gl3_0, gl3_1, gl3_2, gm0, gm2, gm3, gm4, gm5, gm6, gm7, gm8, gm9, gm10, gm11, gm13, gm14, gm22, gm23, gm26, gm27, gm28, gm29, gm31, gm32, gm33, gm36, gm37, gm39, gm40, gm41, gm1, gm12, gm15, gm16, gm17, gm18, gm19, gm20, gm21, gm24, gm25, gm30, gm34, gm35, gm38, rk0, sk0, rk9, sk9, rk16, sk16, rk18, sk18, rk19, sk19, rm1, sm1, rm12, sm12, rm15, sm15, rm16, sm16, rm17, sm17, rm18, sm18, rm19, sm19, rm20, sm20, rm21, sm21, rm24, sm24, rm25, sm25, rm30, sm30, rm34, sm34, rm35, sm35, rm38, sm38, pk1, pk2, pk3, pk4, pk10, pk11, pk12, pk13, pk14, pk15, pk17, pkr5, pkr6, pm0, pm2, pm3, pm4, pm5, pm6, pm7, pm8, pm9, pm10, pm11, pm13, pz13_0, pz13_1, pm14, pz14_0, pz14_1, pm22, pm23, pm26, pm27, pm28, pm29, pm31, pm32, pm33, pm36, pm37, pm39, pm40, pm41, pl2_0, pl2_1, pl2_2, pl3_0, pl3_1, pl3_2, h10, h11, e1, ii_min]
    rw [if_neg (by omega)]
theorem itr_first {s s' : Int → Int → Int} {d : Nat} (u u' : Int) (hd : 0 < d) (h0 : s u 0 = s' u' 0) (h : ∀ u j, 0 ≤ j → j < (d : Int) → s u j = s' u j) : itr s d 0 u = itr s' d 0 u' := by
  obtain ⟨d, rfl⟩ : ∃ e, d = e + 1 := ⟨d - 1, by omega⟩
  show itr s d (0 + 1) (s u 0) = itr s' d (0 + 1) (s' u' 0)
  rw [h0]
  exact itr_cg d _ _ (fun u j h1 h2 => h u j (by omega) (by omega))
theorem k_roundMost (x : Nat) (F : Nat → Int) (P : Nat → Option Nat) (A : Nat → Int → Int) (f l : Nat → Int) (a : Nat → Int → Int) (b : fk_M) {h : Int} {ρ τ σ : Int → Int} (hK : Kq x P b h ρ τ σ) {p : Int} (hp0 : rg p) : KO x F P A f l a b (s_roundMost h ρ σ p) (if (h = 1 ∧ 0 ≤ p ∧ p < ρ 2) then 0 else 1) (f_X1_roundMost (some x) (ii p) (hp x F P A f l a b)) := by
  unfold f_X1_roundMost s_roundMost
  rw [ok0, Option.bind_some, k_isPair x F P A f l a b hp0 hK, Option.bind_some]
  by_cases h0 : (h = 1 ∧ 0 ≤ p ∧ p < ρ 2)
  rotate_left
  · rw [if_neg h0, if_neg h0, if_neg h0, if_pos (show ii 0 = 0 by decide)]
    simp (disch := first | omega | assumption) only [Option.bind_some, bn2_some, ii_lit, ii_neg, ii_add, ii_sub, ii_mul, ii_le, ii_lt, ii_eq, ii_ite, ii_or, ii_and, ii_bit, ii_rem, ii_div, b0_, b1_, b2_, b3_, true_and, and_true, u1_eq, u1_ne, u2_eq, u2_nk, u2_ni, uP_eq, uP_ne, gk1, gk2, gk3, gk4, gk10, gk11, gk12, gk13, gk14, gk15, gk17, gkr0, gkr7, gkr8, gkr9, gkr16, gkr18, gkr19, gkr5, gkr6, ok0, ok1, ok2, ok3, gl2_0, gl2_1, gl2_2, gl3_0, gl3_1, gl3_2, gm0, gm2, gm3, gm4, gm5, gm6, gm7, gm8, gm9, gm10, gm11, gm13, gm14, gm22, gm23, gm26, gm27, gm28, gm29, gm31, gm32, gm33, gm36, gm37, gm39, gm40, gm41, gm1, gm12, gm15, gm16, gm17, gm18, gm19, gm20, gm21, gm24, gm25, gm30, gm34, gm35, gm38, rk0, sk0, rk9, sk9, rk16, sk16, rk18, sk18, rk19, sk19, rm1, sm1, rm12, sm12, rm15, sm15, rm16, sm16, rm17, sm17, rm18, sm18, rm19, sm19, rm20, sm20, rm21, sm21, rm24, sm24, rm25, sm25, rm30, sm30, rm34, sm34, rm35, sm35, rm38, sm38, pk1, pk2, pk3, pk4, pk10, pk11, pk12, pk13, pk14, pk15, pk17, pkr5, pkr6, pm0, pm2, pm3, pm4, pm5, pm6, pm7, pm8, pm9, pm10, pm11, pm13, pz13_0, pz13_1, pm14, pz14_0, pz14_1, pm22, pm23, pm26, pm27, pm28, pm29, pm31, pm32, pm33, pm36, pm37, pm39, pm40, pm41, pl2_0, pl2_1, pl2_2, pl3_0, pl3_1, pl3_2, k_refused]
    exact KO.ref ..
  rw [if_pos h0, if_pos h0, if_pos h0, if_neg (show ¬ ii 1 = 0 by decide)]
  obtain ⟨rfl, hp1, hp2⟩ := h0
  obtain ⟨hh, -⟩ | ⟨-, hR, q, lw, hk, pa, sg, un, l5, l6, s1, s2, s3, hA⟩ := hK
  · omega
  have hw := hR.wd
  have hq := hR.pr hp1 hp2
  refine k_rnd hR hA hp1 hp2 (fun sf sr d rf F' A' M hz g1 g2 g3 g4 b1 b2 hv b3 b4 b5 b6 b7 => ?_)
  have e1 := k_rm23 x F' P A' f l a b hv (by omega) g4 b2 (by omega) g2 g3
  have v0 := hv (rf + 0)
  rw [itr_first (s' := fun u k => if ts ρ σ p (rf + k.toNat) ≤ u then u else ts ρ σ p (rf + k.toNat)) 0 (ts ρ σ p rf) b3 (by
    show max 0 (ts ρ σ p (rf + 0)) = (if ts ρ σ p (rf + 0) ≤ ts ρ σ p (rf + 0) then ts ρ σ p (rf + 0) else _)
    rw [if_pos (Int.le_refl _)]
    omega) (fun u j _ _ => by (try dsimp only); split <;> omega)] at e1
  rw [b6]
  simp (disch := first | omega | assumption) only [Option.bind_some, bn2_some, ii_lit, ii_neg, ii_add, ii_sub, ii_mul, ii_le, ii_lt, ii_eq, ii_ite, ii_or, ii_and, ii_bit, ii_rem, ii_div, b0_, b1_, b2_, b3_, true_and, and_true, u1_eq, u1_ne, u2_eq, u2_nk, u2_ni, uP_eq, uP_ne, gk1, gk2, gk3, gk4, gk10, gk11, gk12, gk13, gk14, gk15, gk17, gkr0, gkr7, gkr8, gkr9, gkr16, gkr18, gkr19, gkr5, gkr6, ok0, ok1, ok2, ok3, gl2_0, gl2_1, gl2_2, gl3_0, gl3_1, gl3_2, gm0, gm2, gm3, gm4, gm5, gm6, gm7, gm8, gm9, gm10, gm11, gm13, gm14, gm22, gm23, gm26, gm27, gm28, gm29, gm31, gm32, gm33, gm36, gm37, gm39, gm40, gm41, gm1, gm12, gm15, gm16, gm17, gm18, gm19, gm20, gm21, gm24, gm25, gm30, gm34, gm35, gm38, rk0, sk0, rk9, sk9, rk16, sk16, rk18, sk18, rk19, sk19, rm1, sm1, rm12, sm12, rm15, sm15, rm16, sm16, rm17, sm17, rm18, sm18, rm19, sm19, rm20, sm20, rm21, sm21, rm24, sm24, rm25, sm25, rm30, sm30, rm34, sm34, rm35, sm35, rm38, sm38, pk1, pk2, pk3, pk4, pk10, pk11, pk12, pk13, pk14, pk15, pk17, pkr5, pkr6, pm0, pm2, pm3, pm4, pm5, pm6, pm7, pm8, pm9, pm10, pm11, pm13, pz13_0, pz13_1, pm14, pz14_0, pz14_1, pm22, pm23, pm26, pm27, pm28, pm29, pm31, pm32, pm33, pm36, pm37, pm39, pm40, pm41, pl2_0, pl2_1, pl2_2, pl3_0, pl3_1, pl3_2, g1, e1]
theorem k_roundLeast (x : Nat) (F : Nat → Int) (P : Nat → Option Nat) (A : Nat → Int → Int) (f l : Nat → Int) (a : Nat → Int → Int) (b : fk_M) {h : Int} {ρ τ σ : Int → Int} (hK : Kq x P b h ρ τ σ) {p : Int} (hp0 : rg p) : KO x F P A f l a b (s_roundLeast h ρ σ p) (if (h = 1 ∧ 0 ≤ p ∧ p < ρ 2) then 0 else 1) (f_X1_roundLeast (some x) (ii p) (hp x F P A f l a b)) := by
  unfold f_X1_roundLeast s_roundLeast
  rw [ok0, Option.bind_some, k_isPair x F P A f l a b hp0 hK, Option.bind_some]
  by_cases h0 : (h = 1 ∧ 0 ≤ p ∧ p < ρ 2)
  rotate_left
  · rw [if_neg h0, if_neg h0, if_neg h0, if_pos (show ii 0 = 0 by decide)]
    simp (disch := first | omega | assumption) only [Option.bind_some, bn2_some, ii_lit, ii_neg, ii_add, ii_sub, ii_mul, ii_le, ii_lt, ii_eq, ii_ite, ii_or, ii_and, ii_bit, ii_rem, ii_div, b0_, b1_, b2_, b3_, true_and, and_true, u1_eq, u1_ne, u2_eq, u2_nk, u2_ni, uP_eq, uP_ne, gk1, gk2, gk3, gk4, gk10, gk11, gk12, gk13, gk14, gk15, gk17, gkr0, gkr7, gkr8, gkr9, gkr16, gkr18, gkr19, gkr5, gkr6, ok0, ok1, ok2, ok3, gl2_0, gl2_1, gl2_2, gl3_0, gl3_1, gl3_2, gm0, gm2, gm3, gm4, gm5, gm6, gm7, gm8, gm9, gm10, gm11, gm13, gm14, gm22, gm23, gm26, gm27, gm28, gm29, gm31, gm32, gm33, gm36, gm37, gm39, gm40, gm41, gm1, gm12, gm15, gm16, gm17, gm18, gm19, gm20, gm21, gm24, gm25, gm30, gm34, gm35, gm38, rk0, sk0, rk9, sk9, rk16, sk16, rk18, sk18, rk19, sk19, rm1, sm1, rm12, sm12, rm15, sm15, rm16, sm16, rm17, sm17, rm18, sm18, rm19, sm19, rm20, sm20, rm21, sm21, rm24, sm24, rm25, sm25, rm30, sm30, rm34, sm34, rm35, sm35, rm38, sm38, pk1, pk2, pk3, pk4, pk10, pk11, pk12, pk13, pk14, pk15, pk17, pkr5, pkr6, pm0, pm2, pm3, pm4, pm5, pm6, pm7, pm8, pm9, pm10, pm11, pm13, pz13_0, pz13_1, pm14, pz14_0, pz14_1, pm22, pm23, pm26, pm27, pm28, pm29, pm31, pm32, pm33, pm36, pm37, pm39, pm40, pm41, pl2_0, pl2_1, pl2_2, pl3_0, pl3_1, pl3_2, k_refused]
    exact KO.ref ..
  rw [if_pos h0, if_pos h0, if_pos h0, if_neg (show ¬ ii 1 = 0 by decide)]
  obtain ⟨rfl, hp1, hp2⟩ := h0
  obtain ⟨hh, -⟩ | ⟨-, hR, q, lw, hk, pa, sg, un, l5, l6, s1, s2, s3, hA⟩ := hK
  · omega
  have hw := hR.wd
  have hq := hR.pr hp1 hp2
  refine k_rnd hR hA hp1 hp2 (fun sf sr d rf F' A' M hz g1 g2 g3 g4 b1 b2 hv b3 b4 b5 b6 b7 => ?_)
  have e1 := k_rl29 x F' P A' f l a b hv (by omega) g4 b2 (by omega) g2 g3
  have v0 := hv (rf + 0)
  rw [itr_first (s' := fun u k => if u ≤ ts ρ σ p (rf + k.toNat) then u else ts ρ σ p (rf + k.toNat)) (ρ 0) (ts ρ σ p rf) b3 (by
    show min (ρ 0) (ts ρ σ p (rf + 0)) = (if ts ρ σ p (rf + 0) ≤ ts ρ σ p (rf + 0) then ts ρ σ p (rf + 0) else _)
    rw [if_pos (Int.le_refl _)]
    omega) (fun u j _ _ => by (try dsimp only); split <;> omega)] at e1
  rw [b6]
  obtain ⟨KP5, KP6, K1, K2, K3, K4, K5, K6, K7, K8, K9, K10, K11, K12, K13, K14, K15, K16, K17, K18, K19, K20, K21, K22, K23, K24, K25, K26, K27, K28, K29, K30, K31⟩ := hA
  simp (disch := first | omega | assumption) only [Option.bind_some, bn2_some, ii_lit, ii_neg, ii_add, ii_sub, ii_mul, ii_le, ii_lt, ii_eq, ii_ite, ii_or, ii_and, ii_bit, ii_rem, ii_div, b0_, b1_, b2_, b3_, true_and, and_true, u1_eq, u1_ne, u2_eq, u2_nk, u2_ni, uP_eq, uP_ne, gk1, gk2, gk3, gk4, gk10, gk11, gk12, gk13, gk14, gk15, gk17, gkr0, gkr7, gkr8, gkr9, gkr16, gkr18, gkr19, gkr5, gkr6, ok0, ok1, ok2, ok3, gl2_0, gl2_1, gl2_2, gl3_0, gl3_1, gl3_2, gm0, gm2, gm3, gm4, gm5, gm6, gm7, gm8, gm9, gm10, gm11, gm13, gm14, gm22, gm23, gm26, gm27, gm28, gm29, gm31, gm32, gm33, gm36, gm37, gm39, gm40, gm41, gm1, gm12, gm15, gm16, gm17, gm18, gm19, gm20, gm21, gm24, gm25, gm30, gm34, gm35, gm38, rk0, sk0, rk9, sk9, rk16, sk16, rk18, sk18, rk19, sk19, rm1, sm1, rm12, sm12, rm15, sm15, rm16, sm16, rm17, sm17, rm18, sm18, rm19, sm19, rm20, sm20, rm21, sm21, rm24, sm24, rm25, sm25, rm30, sm30, rm34, sm34, rm35, sm35, rm38, sm38, pk1, pk2, pk3, pk4, pk10, pk11, pk12, pk13, pk14, pk15, pk17, pkr5, pkr6, pm0, pm2, pm3, pm4, pm5, pm6, pm7, pm8, pm9, pm10, pm11, pm13, pz13_0, pz13_1, pm14, pz14_0, pz14_1, pm22, pm23, pm26, pm27, pm28, pm29, pm31, pm32, pm33, pm36, pm37, pm39, pm40, pm41, pl2_0, pl2_1, pl2_2, pl3_0, pl3_1, pl3_2, g1, KP5, K10, e1]
theorem k_saysLate (x : Nat) (F : Nat → Int) (P : Nat → Option Nat) (A : Nat → Int → Int) (f l : Nat → Int) (a : Nat → Int → Int) (b : fk_M) {h : Int} {ρ τ σ : Int → Int} (hK : Kq x P b h ρ τ σ) {p n : Int} (hp0 : rg p) (hn : rg n) : KO x F P A f l a b (s_saysLate h ρ σ p n) (wy (h = 1 ∧ 0 ≤ p ∧ p < ρ 2) (0 ≤ n ∧ n ≤ 2000000000)) (f_X1_saysLate (some x) (ii p) (ii n) (hp x F P A f l a b)) := by
  unfold f_X1_saysLate s_saysLate
  have ew : f_X1_why (some x) (ii (if (h = 1 ∧ 0 ≤ p ∧ p < ρ 2) then 1 else 0)) (ii n) 0 2000000000 (hp x F P A f l a b) = some (ii (wy (h = 1 ∧ 0 ≤ p ∧ p < ρ 2) (0 ≤ n ∧ n ≤ 2000000000))) := by
    have := k_why (hp x F P A f l a b) (some x) (c := if (h = 1 ∧ 0 ≤ p ∧ p < ρ 2) then 1 else 0) (v := n) (lo := 0) (hi := 2000000000) (by (repeat' split) <;> omega) hn (by omega) (by omega)
    simp only [b1_] at this
    exact this
  rw [ok0, Option.bind_some, k_isPair x F P A f l a b hp0 hK, Option.bind_some, Option.bind_some, ew, Option.bind_some]
  have hy := wy_rg (h = 1 ∧ 0 ≤ p ∧ p < ρ 2) (0 ≤ n ∧ n ≤ 2000000000)
  by_cases h0 : wy (h = 1 ∧ 0 ≤ p ∧ p < ρ 2) (0 ≤ n ∧ n ≤ 2000000000) = 0
  rotate_left
  · rw [if_neg h0]
    simp (disch := first | omega | assumption) only [Option.bind_some, bn2_some, ii_lit, ii_neg, ii_add, ii_sub, ii_mul, ii_le, ii_lt, ii_eq, ii_ite, ii_or, ii_and, ii_bit, ii_rem, ii_div, b0_, b1_, b2_, b3_, true_and, and_true, u1_eq, u1_ne, u2_eq, u2_nk, u2_ni, uP_eq, uP_ne, gk1, gk2, gk3, gk4, gk10, gk11, gk12, gk13, gk14, gk15, gk17, gkr0, gkr7, gkr8, gkr9, gkr16, gkr18, gkr19, gkr5, gkr6, ok0, ok1, ok2, ok3, gl2_0, gl2_1, gl2_2, gl3_0, gl3_1, gl3_2, gm0, gm2, gm3, gm4, gm5, gm6, gm7, gm8, gm9, gm10, gm11, gm13, gm14, gm22, gm23, gm26, gm27, gm28, gm29, gm31, gm32, gm33, gm36, gm37, gm39, gm40, gm41, gm1, gm12, gm15, gm16, gm17, gm18, gm19, gm20, gm21, gm24, gm25, gm30, gm34, gm35, gm38, rk0, sk0, rk9, sk9, rk16, sk16, rk18, sk18, rk19, sk19, rm1, sm1, rm12, sm12, rm15, sm15, rm16, sm16, rm17, sm17, rm18, sm18, rm19, sm19, rm20, sm20, rm21, sm21, rm24, sm24, rm25, sm25, rm30, sm30, rm34, sm34, rm35, sm35, rm38, sm38, pk1, pk2, pk3, pk4, pk10, pk11, pk12, pk13, pk14, pk15, pk17, pkr5, pkr6, pm0, pm2, pm3, pm4, pm5, pm6, pm7, pm8, pm9, pm10, pm11, pm13, pz13_0, pz13_1, pm14, pz14_0, pz14_1, pm22, pm23, pm26, pm27, pm28, pm29, pm31, pm32, pm33, pm36, pm37, pm39, pm40, pm41, pl2_0, pl2_1, pl2_2, pl3_0, pl3_1, pl3_2, k_refused]
    rw [if_neg (by omega)]
    exact KO.ref ..
  obtain ⟨⟨rfl, hp1, hp2⟩, hn0, hn1⟩ := wy_0.mp h0
  rw [h0, if_pos (show (0 : Int) = 0 from rfl), if_pos (show ii 0 ≤ 0 by decide)]
  obtain ⟨hh, -⟩ | ⟨-, hR, q, lw, hk, pa, sg, un, l5, l6, s1, s2, s3, hA⟩ := hK
  · omega
  have hw := hR.wd
  refine k_rnd hR hA hp1 hp2 (fun sf sr d rf F' A' M hz g1 g2 g3 g4 b1 b2 hv b3 b4 b5 b6 b7 => ?_)
  have em : 0 ≤ (n - rf) % (d : Int) ∧ (n - rf) % (d : Int) < d := ⟨Int.emod_nonneg _ (by omega), Int.emod_lt_of_pos _ (by omega)⟩
  unfold f_X1_saysLate_J68
  rw [Option.bind_some, g1, Option.bind_some]
  by_cases hc : (rf : Int) ≤ n
  · have e1 := g4 (rf + (n.toNat - rf) % d) (by have := Nat.mod_lt (n.toNat - rf) b3; omega)
    have e2 : (n - rf) % (d : Int) = (((n.toNat - rf) % d : Nat) : Int) := by
      rw [show n - rf = ((n.toNat - rf : Nat) : Int) by omega]
      rfl
    rw [show ((rf + (n.toNat - rf) % d : Nat) : Int) = rf + (n - rf) % (d : Int) by rw [e2]; omega, per_mod b7 (show rf ≤ n.toNat by omega)] at e1
    simp (disch := first | omega | assumption) only [Option.bind_some, bn2_some, ii_lit, ii_neg, ii_add, ii_sub, ii_mul, ii_le, ii_lt, ii_eq, ii_ite, ii_or, ii_and, ii_bit, ii_rem, ii_div, b0_, b1_, b2_, b3_, true_and, and_true, u1_eq, u1_ne, u2_eq, u2_nk, u2_ni, uP_eq, uP_ne, gk1, gk2, gk3, gk4, gk10, gk11, gk12, gk13, gk14, gk15, gk17, gkr0, gkr7, gkr8, gkr9, gkr16, gkr18, gkr19, gkr5, gkr6, ok0, ok1, ok2, ok3, gl2_0, gl2_1, gl2_2, gl3_0, gl3_1, gl3_2, gm0, gm2, gm3, gm4, gm5, gm6, gm7, gm8, gm9, gm10, gm11, gm13, gm14, gm22, gm23, gm26, gm27, gm28, gm29, gm31, gm32, gm33, gm36, gm37, gm39, gm40, gm41, gm1, gm12, gm15, gm16, gm17, gm18, gm19, gm20, gm21, gm24, gm25, gm30, gm34, gm35, gm38, rk0, sk0, rk9, sk9, rk16, sk16, rk18, sk18, rk19, sk19, rm1, sm1, rm12, sm12, rm15, sm15, rm16, sm16, rm17, sm17, rm18, sm18, rm19, sm19, rm20, sm20, rm21, sm21, rm24, sm24, rm25, sm25, rm30, sm30, rm34, sm34, rm35, sm35, rm38, sm38, pk1, pk2, pk3, pk4, pk10, pk11, pk12, pk13, pk14, pk15, pk17, pkr5, pkr6, pm0, pm2, pm3, pm4, pm5, pm6, pm7, pm8, pm9, pm10, pm11, pm13, pz13_0, pz13_1, pm14, pz14_0, pz14_1, pm22, pm23, pm26, pm27, pm28, pm29, pm31, pm32, pm33, pm36, pm37, pm39, pm40, pm41, pl2_0, pl2_1, pl2_2, pl3_0, pl3_1, pl3_2, g2, g3, e1, k_well]
    rw [if_pos hc, if_neg (by omega)]
  · have e1 := g4 n.toNat (by omega)
    rw [show ((n.toNat : Nat) : Int) = n by omega] at e1
    simp (disch := first | omega | assumption) only [Option.bind_some, bn2_some, ii_lit, ii_neg, ii_add, ii_sub, ii_mul, ii_le, ii_lt, ii_eq, ii_ite, ii_or, ii_and, ii_bit, ii_rem, ii_div, b0_, b1_, b2_, b3_, true_and, and_true, u1_eq, u1_ne, u2_eq, u2_nk, u2_ni, uP_eq, uP_ne, gk1, gk2, gk3, gk4, gk10, gk11, gk12, gk13, gk14, gk15, gk17, gkr0, gkr7, gkr8, gkr9, gkr16, gkr18, gkr19, gkr5, gkr6, ok0, ok1, ok2, ok3, gl2_0, gl2_1, gl2_2, gl3_0, gl3_1, gl3_2, gm0, gm2, gm3, gm4, gm5, gm6, gm7, gm8, gm9, gm10, gm11, gm13, gm14, gm22, gm23, gm26, gm27, gm28, gm29, gm31, gm32, gm33, gm36, gm37, gm39, gm40, gm41, gm1, gm12, gm15, gm16, gm17, gm18, gm19, gm20, gm21, gm24, gm25, gm30, gm34, gm35, gm38, rk0, sk0, rk9, sk9, rk16, sk16, rk18, sk18, rk19, sk19, rm1, sm1, rm12, sm12, rm15, sm15, rm16, sm16, rm17, sm17, rm18, sm18, rm19, sm19, rm20, sm20, rm21, sm21, rm24, sm24, rm25, sm25, rm30, sm30, rm34, sm34, rm35, sm35, rm38, sm38, pk1, pk2, pk3, pk4, pk10, pk11, pk12, pk13, pk14, pk15, pk17, pkr5, pkr6, pm0, pm2, pm3, pm4, pm5, pm6, pm7, pm8, pm9, pm10, pm11, pm13, pz13_0, pz13_1, pm14, pz14_0, pz14_1, pm22, pm23, pm26, pm27, pm28, pm29, pm31, pm32, pm33, pm36, pm37, pm39, pm40, pm41, pl2_0, pl2_1, pl2_2, pl3_0, pl3_1, pl3_2, g2, g3, e1, k_well]
    rw [if_neg hc]
