/-! PLAIN 17: the component: dumb seasons -/
set_option maxRecDepth 100000
def KL (x : Nat) (F : Nat → Int) (P : Nat → Option Nat) (A : Nat → Int → Int) (f l : Nat → Int) (a : Nat → Int → Int) (b : fk_M) (z : Int64) (w : Int) (res : Option (Int64 × fk_M)) : Prop := ∃ F' A', res = some (z, hp x F' P A' f l a b) ∧ F' 4 = w ∧ F' 3 = -1 ∧ ke F F' ∧ A' 0 = A 0
theorem KL.of {x : Nat} {F : Nat → Int} {P : Nat → Option Nat} {A : Nat → Int → Int} {f l : Nat → Int} {a : Nat → Int → Int} {b : fk_M} {z : Int64} {w : Int} {res : Option (Int64 × fk_M)} (A' : Nat → Int → Int) (hA0 : A' 0 = A 0) (h : res = some (z, hp x (Fo F w) P A' f l a b)) : KL x F P A f l a b z w res := ⟨Fo F w, A', h, Fo_4 .., Fo_3 .., ke.o .., hA0⟩
theorem k_saysBy (x : Nat) (F : Nat → Int) (P : Nat → Option Nat) (A : Nat → Int → Int) (f l : Nat → Int) (a : Nat → Int → Int) (b : fk_M) {q lw hk : Int → Nat} {pa sg un l5 l6 s1 s2 s3 : Nat} {ρ τ σ : Int → Int} (hR : Rg ρ τ σ) (hA : Api x P b ρ τ σ q lw hk pa sg un l5 l6 s1 s2 s3) {p n s : Int} (h0 : 0 ≤ p) (h1 : p < ρ 2) (hn : 0 ≤ n) (hn2 : n ≤ 5) : f_X1_saysBy (some x) (ii p) (ii n) (ii s) (hp x F P A f l a b) = some (ii (wvn ρ σ p n s).2) := by
  have hw := hR.wd
  have hq := hR.pr h0 h1
  have hA' := hA
  obtain ⟨KP5, KP6, K1, K2, K3, K4, K5, K6, K7, K8, K9, K10, K11, K12, K13, K14, K15, K16, K17, K18, K19, K20, K21, K22, K23, K24, K25, K26, K27, K28, K29, K30, K31⟩ := hA
  unfold f_X1_saysBy
  have hL := loop_it (fun N (u : Int × Int) k => f_X1_saysBy_L14 (some x) (ii p) (ii n) (ii s) (hp x F P A f l a b) N (ii u.2) (ii (k + 1))) (wv ρ σ p s) (fun u => some (ii u.2)) (fun u k => 0 ≤ u.2 ∧ u.2 ≤ ρ 0) (lo := 0) (hi := n) ?_ ?_ n.toNat fk_fuel (1, σ p) 0 (by omega) (by omega) (by unfold fk_fuel; omega) hq.1.2.2.2.2.1
  · simp (disch := first | omega | assumption) only [Option.bind_some, bn2_some, ii_lit, ii_neg, ii_add, ii_sub, ii_mul, ii_le, ii_lt, ii_eq, ii_ite, ii_or, ii_and, ii_bit, ii_rem, ii_div, b0_, b1_, b2_, b3_, true_and, and_true, u1_eq, u1_ne, u2_eq, u2_nk, u2_ni, uP_eq, uP_ne, gk1, gk2, gk3, gk4, gk10, gk11, gk12, gk13, gk14, gk15, gk17, gkr0, gkr7, gkr8, gkr9, gkr16, gkr18, gkr19, gkr5, gkr6, ok0, ok1, ok2, ok3, gl2_0, gl2_1, gl2_2, gl3_0, gl3_1, gl3_2, gm0, gm2, gm3, gm4, gm5, gm6, gm7, gm8, gm9, gm10, gm11, gm13, gm14, gm22, gm23, gm26, gm27, gm28, gm29, gm31, gm32, gm33, gm36, gm37, gm39, gm40, gm41, gm1, gm12, gm15, gm16, gm17, gm18, gm19, gm20, gm21, gm24, gm25, gm30, gm34, gm35, gm38, rk0, sk0, rk9, sk9, rk16, sk16, rk18, sk18, rk19, sk19, rm1, sm1, rm12, sm12, rm15, sm15, rm16, sm16, rm17, sm17, rm18, sm18, rm19, sm19, rm20, sm20, rm21, sm21, rm24, sm24, rm25, sm25, rm30, sm30, rm34, sm34, rm35, sm35, rm38, sm38, pk1, pk2, pk3, pk4, pk10, pk11, pk12, pk13, pk14, pk15, pk17, pkr5, pkr6, pm0, pm2, pm3, pm4, pm5, pm6, pm7, pm8, pm9, pm10, pm11, pm13, pz13_0, pz13_1, pm14, pz14_0, pz14_1, pm22, pm23, pm26, pm27, pm28, pm29, pm31, pm32, pm33, pm36, pm37, pm39, pm40, pm41, pl2_0, pl2_1, pl2_2, pl3_0, pl3_1, pl3_2, KP6, K24, K28]
    exact hL.1
  · intros
    try dsimp only
    rw [f_X1_saysBy_L14]
    simp (disch := first | omega | assumption) only [Option.bind_some, bn2_some, ii_lit, ii_neg, ii_add, ii_sub, ii_mul, ii_le, ii_lt, ii_eq, ii_ite, ii_or, ii_and, ii_bit, ii_rem, ii_div, b0_, b1_, b2_, b3_, true_and, and_true, u1_eq, u1_ne, u2_eq, u2_nk, u2_ni, uP_eq, uP_ne, gk1, gk2, gk3, gk4, gk10, gk11, gk12, gk13, gk14, gk15, gk17, gkr0, gkr7, gkr8, gkr9, gkr16, gkr18, gkr19, gkr5, gkr6, ok0, ok1, ok2, ok3, gl2_0, gl2_1, gl2_2, gl3_0, gl3_1, gl3_2, gm0, gm2, gm3, gm4, gm5, gm6, gm7, gm8, gm9, gm10, gm11, gm13, gm14, gm22, gm23, gm26, gm27, gm28, gm29, gm31, gm32, gm33, gm36, gm37, gm39, gm40, gm41, gm1, gm12, gm15, gm16, gm17, gm18, gm19, gm20, gm21, gm24, gm25, gm30, gm34, gm35, gm38, rk0, sk0, rk9, sk9, rk16, sk16, rk18, sk18, rk19, sk19, rm1, sm1, rm12, sm12, rm15, sm15, rm16, sm16, rm17, sm17, rm18, sm18, rm19, sm19, rm20, sm20, rm21, sm21, rm24, sm24, rm25, sm25, rm30, sm30, rm34, sm34, rm35, sm35, rm38, sm38, pk1, pk2, pk3, pk4, pk10, pk11, pk12, pk13, pk14, pk15, pk17, pkr5, pkr6, pm0, pm2, pm3, pm4, pm5, pm6, pm7, pm8, pm9, pm10, pm11, pm13, pz13_0, pz13_1, pm14, pz14_0, pz14_1, pm22, pm23, pm26, pm27, pm28, pm29, pm31, pm32, pm33, pm36, pm37, pm39, pm40, pm41, pl2_0, pl2_1, pl2_2, pl3_0, pl3_1, pl3_2]
    rw [if_pos (by omega)]
  · intro N u k k1 k2 hu
    refine ⟨bh_rg (by omega) hu.1 hu.2, ?_⟩
    have ez : k + 1 - 1 = k := by omega
    have eg : σ 35 + (k + 1) = σ 35 + k + 1 := by omega
    have e1 := k_then x F P A f l a b hR hA' (p := p) (v := u.2) (s := σ (5 + p)) (e := ρ (13 + p)) (g := σ 35 + k + 1) (d := if hb s k then 1 else 0) h0 h1 hu.1 hu.2 (by omega) (by omega) (by omega) (by omega) (by omega) (by omega) (by split <;> omega) (by split <;> omega)
    try dsimp only
    rw [f_X1_saysBy_L14]
    simp (disch := first | omega | assumption) only [Option.bind_some, bn2_some, ii_lit, ii_neg, ii_add, ii_sub, ii_mul, ii_le, ii_lt, ii_eq, ii_ite, ii_or, ii_and, ii_bit, ii_rem, ii_div, b0_, b1_, b2_, b3_, true_and, and_true, u1_eq, u1_ne, u2_eq, u2_nk, u2_ni, uP_eq, uP_ne, gk1, gk2, gk3, gk4, gk10, gk11, gk12, gk13, gk14, gk15, gk17, gkr0, gkr7, gkr8, gkr9, gkr16, gkr18, gkr19, gkr5, gkr6, ok0, ok1, ok2, ok3, gl2_0, gl2_1, gl2_2, gl3_0, gl3_1, gl3_2, gm0, gm2, gm3, gm4, gm5, gm6, gm7, gm8, gm9, gm10, gm11, gm13, gm14, gm22, gm23, gm26, gm27, gm28, gm29, gm31, gm32, gm33, gm36, gm37, gm39, gm40, gm41, gm1, gm12, gm15, gm16, gm17, gm18, gm19, gm20, gm21, gm24, gm25, gm30, gm34, gm35, gm38, rk0, sk0, rk9, sk9, rk16, sk16, rk18, sk18, rk19, sk19, rm1, sm1, rm12, sm12, rm15, sm15, rm16, sm16, rm17, sm17, rm18, sm18, rm19, sm19, rm20, sm20, rm21, sm21, rm24, sm24, rm25, sm25, rm30, sm30, rm34, sm34, rm35, sm35, rm38, sm38, pk1, pk2, pk3, pk4, pk10, pk11, pk12, pk13, pk14, pk15, pk17, pkr5, pkr6, pm0, pm2, pm3, pm4, pm5, pm6, pm7, pm8, pm9, pm10, pm11, pm13, pz13_0, pz13_1, pm14, pz14_0, pz14_1, pm22, pm23, pm26, pm27, pm28, pm29, pm31, pm32, pm33, pm36, pm37, pm39, pm40, pm41, pl2_0, pl2_1, pl2_2, pl3_0, pl3_1, pl3_2, KP6, K25, K29, K2, K3, K27, ez, eg, k_hasB, e1]
    rw [if_neg (by omega)]
    rfl
theorem k_partOf (x : Nat) (F : Nat → Int) (P : Nat → Option Nat) (A : Nat → Int → Int) (f l : Nat → Int) (a : Nat → Int → Int) (b : fk_M) {q lw hk : Int → Nat} {pa sg un l5 l6 s1 s2 s3 : Nat} {ρ τ σ : Int → Int} (hR : Rg ρ τ σ) (hA : Api x P b ρ τ σ q lw hk pa sg un l5 l6 s1 s2 s3) {n s : Int} (p : Int) (hn : 0 ≤ n) (hn2 : n ≤ 5) : f_X1_partOf (some x) (ii n) (ii s) (hp x F P A f l a b) = some (jj (wvn ρ σ p n s).1) := by
  have hw := hR.wd
  rw [wvn_1]
  obtain ⟨KP5, KP6, K1, K2, K3, K4, K5, K6, K7, K8, K9, K10, K11, K12, K13, K14, K15, K16, K17, K18, K19, K20, K21, K22, K23, K24, K25, K26, K27, K28, K29, K30, K31⟩ := hA
  unfold f_X1_partOf wt
  refine loop_i0 (fun N u k => f_X1_partOf_L5 (some x) (ii n) (ii s) (hp x F P A f l a b) N (jj u) (ii k)) (fun u k => u * (if hb s k then ρ 1 else 100 - ρ 1)) (fun u => some (jj u)) (lo := 0) (hi := n) ?_ ?_ n.toNat fk_fuel 1 0 (by omega) (by omega) (by unfold fk_fuel; omega)
  · intros
    try dsimp only
    rw [f_X1_partOf_L5]
    simp (disch := first | omega | assumption) only [Option.bind_some, bn2_some, ii_lit, ii_neg, ii_add, ii_sub, ii_mul, ii_le, ii_lt, ii_eq, ii_ite, ii_or, ii_and, ii_bit, ii_rem, ii_div, b0_, b1_, b2_, b3_, true_and, and_true, u1_eq, u1_ne, u2_eq, u2_nk, u2_ni, uP_eq, uP_ne, gk1, gk2, gk3, gk4, gk10, gk11, gk12, gk13, gk14, gk15, gk17, gkr0, gkr7, gkr8, gkr9, gkr16, gkr18, gkr19, gkr5, gkr6, ok0, ok1, ok2, ok3, gl2_0, gl2_1, gl2_2, gl3_0, gl3_1, gl3_2, gm0, gm2, gm3, gm4, gm5, gm6, gm7, gm8, gm9, gm10, gm11, gm13, gm14, gm22, gm23, gm26, gm27, gm28, gm29, gm31, gm32, gm33, gm36, gm37, gm39, gm40, gm41, gm1, gm12, gm15, gm16, gm17, gm18, gm19, gm20, gm21, gm24, gm25, gm30, gm34, gm35, gm38, rk0, sk0, rk9, sk9, rk16, sk16, rk18, sk18, rk19, sk19, rm1, sm1, rm12, sm12, rm15, sm15, rm16, sm16, rm17, sm17, rm18, sm18, rm19, sm19, rm20, sm20, rm21, sm21, rm24, sm24, rm25, sm25, rm30, sm30, rm34, sm34, rm35, sm35, rm38, sm38, pk1, pk2, pk3, pk4, pk10, pk11, pk12, pk13, pk14, pk15, pk17, pkr5, pkr6, pm0, pm2, pm3, pm4, pm5, pm6, pm7, pm8, pm9, pm10, pm11, pm13, pz13_0, pz13_1, pm14, pz14_0, pz14_1, pm22, pm23, pm26, pm27, pm28, pm29, pm31, pm32, pm33, pm36, pm37, pm39, pm40, pm41, pl2_0, pl2_1, pl2_2, pl3_0, pl3_1, pl3_2]
    rw [if_pos (by omega)]
  · intro N u k k1 k2
    try dsimp only
    rw [f_X1_partOf_L5]
    simp (disch := first | omega | assumption) only [Option.bind_some, bn2_some, ii_lit, ii_neg, ii_add, ii_sub, ii_mul, ii_le, ii_lt, ii_eq, ii_ite, ii_or, ii_and, ii_bit, ii_rem, ii_div, b0_, b1_, b2_, b3_, true_and, and_true, u1_eq, u1_ne, u2_eq, u2_nk, u2_ni, uP_eq, uP_ne, gk1, gk2, gk3, gk4, gk10, gk11, gk12, gk13, gk14, gk15, gk17, gkr0, gkr7, gkr8, gkr9, gkr16, gkr18, gkr19, gkr5, gkr6, ok0, ok1, ok2, ok3, gl2_0, gl2_1, gl2_2, gl3_0, gl3_1, gl3_2, gm0, gm2, gm3, gm4, gm5, gm6, gm7, gm8, gm9, gm10, gm11, gm13, gm14, gm22, gm23, gm26, gm27, gm28, gm29, gm31, gm32, gm33, gm36, gm37, gm39, gm40, gm41, gm1, gm12, gm15, gm16, gm17, gm18, gm19, gm20, gm21, gm24, gm25, gm30, gm34, gm35, gm38, rk0, sk0, rk9, sk9, rk16, sk16, rk18, sk18, rk19, sk19, rm1, sm1, rm12, sm12, rm15, sm15, rm16, sm16, rm17, sm17, rm18, sm18, rm19, sm19, rm20, sm20, rm21, sm21, rm24, sm24, rm25, sm25, rm30, sm30, rm34, sm34, rm35, sm35, rm38, sm38, pk1, pk2, pk3, pk4, pk10, pk11, pk12, pk13, pk14, pk15, pk17, pkr5, pkr6, pm0, pm2, pm3, pm4, pm5, pm6, pm7, pm8, pm9, pm10, pm11, pm13, pz13_0, pz13_1, pm14, pz14_0, pz14_1, pm22, pm23, pm26, pm27, pm28, pm29, pm31, pm32, pm33, pm36, pm37, pm39, pm40, pm41, pl2_0, pl2_1, pl2_2, pl3_0, pl3_1, pl3_2, KP5, K11, k_hasB, f_X1_partOf_J43, jj_of, jj_mul]
    rw [if_neg (by omega)]
    (repeat' split) <;> first | rfl | contradiction
theorem k_whole (m : fk_M) {n : Int} (hn : 0 ≤ n) (hn2 : n ≤ 5) : f_X1_whole (ii n) m = some (jj (100 ^ n.toNat)) := by
  have he : itr (fun u (_ : Int) => u * 100) n.toNat 0 (1 : Int) = 100 ^ n.toNat := by
    have : n = 0 ∨ n = 1 ∨ n = 2 ∨ n = 3 ∨ n = 4 ∨ n = 5 := by omega
    rcases this with rfl | rfl | rfl | rfl | rfl | rfl <;> decide
  unfold f_X1_whole
  rw [← he]
  refine loop_i0 (fun N u k => f_X1_whole_L4 (ii n) m N (jj u) (ii k)) (fun u (_ : Int) => u * 100) (fun u => some (jj u)) (lo := 0) (hi := n) ?_ ?_ n.toNat fk_fuel 1 0 (by omega) (by omega) (by unfold fk_fuel; omega)
  · intros
    try dsimp only
    rw [f_X1_whole_L4]
    simp (disch := first | omega | assumption) only [Option.bind_some, bn2_some, ii_lit, ii_neg, ii_add, ii_sub, ii_mul, ii_le, ii_lt, ii_eq, ii_ite, ii_or, ii_and, ii_bit, ii_rem, ii_div, b0_, b1_, b2_, b3_, true_and, and_true, u1_eq, u1_ne, u2_eq, u2_nk, u2_ni, uP_eq, uP_ne, gk1, gk2, gk3, gk4, gk10, gk11, gk12, gk13, gk14, gk15, gk17, gkr0, gkr7, gkr8, gkr9, gkr16, gkr18, gkr19, gkr5, gkr6, ok0, ok1, ok2, ok3, gl2_0, gl2_1, gl2_2, gl3_0, gl3_1, gl3_2, gm0, gm2, gm3, gm4, gm5, gm6, gm7, gm8, gm9, gm10, gm11, gm13, gm14, gm22, gm23, gm26, gm27, gm28, gm29, gm31, gm32, gm33, gm36, gm37, gm39, gm40, gm41, gm1, gm12, gm15, gm16, gm17, gm18, gm19, gm20, gm21, gm24, gm25, gm30, gm34, gm35, gm38, rk0, sk0, rk9, sk9, rk16, sk16, rk18, sk18, rk19, sk19, rm1, sm1, rm12, sm12, rm15, sm15, rm16, sm16, rm17, sm17, rm18, sm18, rm19, sm19, rm20, sm20, rm21, sm21, rm24, sm24, rm25, sm25, rm30, sm30, rm34, sm34, rm35, sm35, rm38, sm38, pk1, pk2, pk3, pk4, pk10, pk11, pk12, pk13, pk14, pk15, pk17, pkr5, pkr6, pm0, pm2, pm3, pm4, pm5, pm6, pm7, pm8, pm9, pm10, pm11, pm13, pz13_0, pz13_1, pm14, pz14_0, pz14_1, pm22, pm23, pm26, pm27, pm28, pm29, pm31, pm32, pm33, pm36, pm37, pm39, pm40, pm41, pl2_0, pl2_1, pl2_2, pl3_0, pl3_1, pl3_2]
    rw [if_pos (by omega)]
  · intro N u k k1 k2
    try dsimp only
    rw [f_X1_whole_L4]
    simp (disch := first | omega | assumption) only [Option.bind_some, bn2_some, ii_lit, ii_neg, ii_add, ii_sub, ii_mul, ii_le, ii_lt, ii_eq, ii_ite, ii_or, ii_and, ii_bit, ii_rem, ii_div, b0_, b1_, b2_, b3_, true_and, and_true, u1_eq, u1_ne, u2_eq, u2_nk, u2_ni, uP_eq, uP_ne, gk1, gk2, gk3, gk4, gk10, gk11, gk12, gk13, gk14, gk15, gk17, gkr0, gkr7, gkr8, gkr9, gkr16, gkr18, gkr19, gkr5, gkr6, ok0, ok1, ok2, ok3, gl2_0, gl2_1, gl2_2, gl3_0, gl3_1, gl3_2, gm0, gm2, gm3, gm4, gm5, gm6, gm7, gm8, gm9, gm10, gm11, gm13, gm14, gm22, gm23, gm26, gm27, gm28, gm29, gm31, gm32, gm33, gm36, gm37, gm39, gm40, gm41, gm1, gm12, gm15, gm16, gm17, gm18, gm19, gm20, gm21, gm24, gm25, gm30, gm34, gm35, gm38, rk0, sk0, rk9, sk9, rk16, sk16, rk18, sk18, rk19, sk19, rm1, sm1, rm12, sm12, rm15, sm15, rm16, sm16, rm17, sm17, rm18, sm18, rm19, sm19, rm20, sm20, rm21, sm21, rm24, sm24, rm25, sm25, rm30, sm30, rm34, sm34, rm35, sm35, rm38, sm38, pk1, pk2, pk3, pk4, pk10, pk11, pk12, pk13, pk14, pk15, pk17, pkr5, pkr6, pm0, pm2, pm3, pm4, pm5, pm6, pm7, pm8, pm9, pm10, pm11, pm13, pz13_0, pz13_1, pm14, pz14_0, pz14_1, pm22, pm23, pm26, pm27, pm28, pm29, pm31, pm32, pm33, pm36, pm37, pm39, pm40, pm41, pl2_0, pl2_1, pl2_2, pl3_0, pl3_1, pl3_2, jj_lit, jj_mul]
    rw [if_neg (by omega)]
theorem k_mean (x : Nat) (F : Nat → Int) (P : Nat → Option Nat) (A : Nat → Int → Int) (f l : Nat → Int) (a : Nat → Int → Int) (b : fk_M) {h : Int} {ρ τ σ : Int → Int} (hK : Kq x P b h ρ τ σ) {p n : Int} (c : Int32) (hp0 : rg p) (hn : rg n) : KL x F P A f l a b (s_mean h ρ σ p n c) (wy (h = 1 ∧ 0 ≤ p ∧ p < ρ 2) (0 ≤ n ∧ n ≤ 5)) (f_X1_mean (some x) (ii p) (ii n) c (hp x F P A f l a b)) := by
  unfold f_X1_mean s_mean
  have e1 : f_X1_why (some x) (ii (if (h = 1 ∧ 0 ≤ p ∧ p < ρ 2) then 1 else 0)) (ii n) 0 5 (hp x F P A f l a b) = some (ii (wy ((if (h = 1 ∧ 0 ≤ p ∧ p < ρ 2) then (1 : Int) else 0) = 1) (0 ≤ n ∧ n ≤ 5))) := k_why _ _ (lo := 0) (hi := 5) (by split <;> omega) hn (by omega) (by omega)
  simp only [b1_] at e1
  have hy := wy_rg (h = 1 ∧ 0 ≤ p ∧ p < ρ 2) (0 ≤ n ∧ n ≤ 5)
  rw [ok0, Option.bind_some, k_isPair x F P A f l a b hp0 hK, Option.bind_some, Option.bind_some, e1, Option.bind_some]
  by_cases h0 : wy (h = 1 ∧ 0 ≤ p ∧ p < ρ 2) (0 ≤ n ∧ n ≤ 5) = 0
  · obtain ⟨⟨rfl, h2, h3⟩, h4, h5⟩ := wy_0.mp h0
    obtain ⟨hh, -⟩ | ⟨-, hR, q, lw, hk, pa, sg, un, l5, l6, s1, s2, s3, hA⟩ := hK
    · omega
    have hr := tdn_rg hR 0 h2 h3 h4 h5
    have hpw := pw_rg h4 h5
    have hp2 := p2_rg h4 h5
    rw [h0, if_pos (show ii 0 ≤ 0 by decide), if_pos rfl]
    refine KL.of A rfl ?_
    have hL := loop_i0 (fun N (u : Int × Int × Int) k => f_X1_mean_L33 (some x) (ii p) (ii n) c (hp x F P A f l a b) N (jj u.2.2) (ii k)) (tds ρ σ p n 0) (fun u => bn2 (f_X1_fraction (some x) (jj u.2.2) (jj (100 ^ n.toNat)) c (hp x F P A f l a b)) fun z3 m4 => some (z3, m4)) (lo := 0) (hi := p2 n) ?_ ?_ (p2 n).toNat fk_fuel (0, 0, 0) 0 (by omega) (by omega) (by unfold fk_fuel; omega)
    · refine Eq.trans hL ?_
      have e6 := k_fraction x F P A f l a b c (u := (tdn ρ σ p n 0).2.2) (v := 100 ^ n.toNat) hr.2.2.1 (by omega) (by omega) (by omega)
      show bn2 (f_X1_fraction (some x) (jj (tdn ρ σ p n 0).2.2) (jj (100 ^ n.toNat)) c (hp x F P A f l a b)) _ = _
      rw [e6, bn2_some]
    · intro N u
      have ew := k_whole (hp x F P A f l a b) h4 h5
      try dsimp only
      rw [f_X1_mean_L33]
      simp (disch := first | omega | assumption) only [Option.bind_some, bn2_some, ii_lit, ii_neg, ii_add, ii_sub, ii_mul, ii_le, ii_lt, ii_eq, ii_ite, ii_or, ii_and, ii_bit, ii_rem, ii_div, b0_, b1_, b2_, b3_, true_and, and_true, u1_eq, u1_ne, u2_eq, u2_nk, u2_ni, uP_eq, uP_ne, gk1, gk2, gk3, gk4, gk10, gk11, gk12, gk13, gk14, gk15, gk17, gkr0, gkr7, gkr8, gkr9, gkr16, gkr18, gkr19, gkr5, gkr6, ok0, ok1, ok2, ok3, gl2_0, gl2_1, gl2_2, gl3_0, gl3_1, gl3_2, gm0, gm2, gm3, gm4, gm5, gm6, gm7, gm8, gm9, gm10, gm11, gm13, gm14, gm22, gm23, gm26, gm27, gm28, gm29, gm31, gm32, gm33, gm36, gm37, gm39, gm40, gm41, gm1, gm12, gm15, gm16, gm17, gm18, gm19, gm20, gm21, gm24, gm25, gm30, gm34, gm35, gm38, rk0, sk0, rk9, sk9, rk16, sk16, rk18, sk18, rk19, sk19, rm1, sm1, rm12, sm12, rm15, sm15, rm16, sm16, rm17, sm17, rm18, sm18, rm19, sm19, rm20, sm20, rm21, sm21, rm24, sm24, rm25, sm25, rm30, sm30, rm34, sm34, rm35, sm35, rm38, sm38, pk1, pk2, pk3, pk4, pk10, pk11, pk12, pk13, pk14, pk15, pk17, pkr5, pkr6, pm0, pm2, pm3, pm4, pm5, pm6, pm7, pm8, pm9, pm10, pm11, pm13, pz13_0, pz13_1, pm14, pz14_0, pz14_1, pm22, pm23, pm26, pm27, pm28, pm29, pm31, pm32, pm33, pm36, pm37, pm39, pm40, pm41, pl2_0, pl2_1, pl2_2, pl3_0, pl3_1, pl3_2, ii_shl1, ew]
      rw [if_pos (by omega)]
    · intro N u k k1 k2
      have e2 := k_saysBy x F P A f l a b hR hA (p := p) (n := n) (s := k) h2 h3 h4 h5
      have e3 := k_partOf x F P A f l a b hR hA (n := n) (s := k) p h4 h5
      have hv := wvn_2 hR h2 h3 n k
      have hw := hR.wd
      try dsimp only
      rw [f_X1_mean_L33]
      simp (disch := first | omega | assumption) only [Option.bind_some, bn2_some, ii_lit, ii_neg, ii_add, ii_sub, ii_mul, ii_le, ii_lt, ii_eq, ii_ite, ii_or, ii_and, ii_bit, ii_rem, ii_div, b0_, b1_, b2_, b3_, true_and, and_true, u1_eq, u1_ne, u2_eq, u2_nk, u2_ni, uP_eq, uP_ne, gk1, gk2, gk3, gk4, gk10, gk11, gk12, gk13, gk14, gk15, gk17, gkr0, gkr7, gkr8, gkr9, gkr16, gkr18, gkr19, gkr5, gkr6, ok0, ok1, ok2, ok3, gl2_0, gl2_1, gl2_2, gl3_0, gl3_1, gl3_2, gm0, gm2, gm3, gm4, gm5, gm6, gm7, gm8, gm9, gm10, gm11, gm13, gm14, gm22, gm23, gm26, gm27, gm28, gm29, gm31, gm32, gm33, gm36, gm37, gm39, gm40, gm41, gm1, gm12, gm15, gm16, gm17, gm18, gm19, gm20, gm21, gm24, gm25, gm30, gm34, gm35, gm38, rk0, sk0, rk9, sk9, rk16, sk16, rk18, sk18, rk19, sk19, rm1, sm1, rm12, sm12, rm15, sm15, rm16, sm16, rm17, sm17, rm18, sm18, rm19, sm19, rm20, sm20, rm21, sm21, rm24, sm24, rm25, sm25, rm30, sm30, rm34, sm34, rm35, sm35, rm38, sm38, pk1, pk2, pk3, pk4, pk10, pk11, pk12, pk13, pk14, pk15, pk17, pkr5, pkr6, pm0, pm2, pm3, pm4, pm5, pm6, pm7, pm8, pm9, pm10, pm11, pm13, pz13_0, pz13_1, pm14, pz14_0, pz14_1, pm22, pm23, pm26, pm27, pm28, pm29, pm31, pm32, pm33, pm36, pm37, pm39, pm40, pm41, pl2_0, pl2_1, pl2_2, pl3_0, pl3_1, pl3_2, ii_shl1, e2, e3, jj_of, jj_mul, jj_add]
      rw [if_neg (by omega)]
      rfl
  · rw [if_neg h0, if_neg (show ¬ ii (wy (h = 1 ∧ 0 ≤ p ∧ p < ρ 2) (0 ≤ n ∧ n ≤ 5)) ≤ 0 by rw [show (0 : Int32) = ii 0 from rfl, ii_le (by omega) (by omega)]; omega), Option.bind_some, k_refused, bn2_some]
    exact KL.of A rfl rfl
theorem k_odds (x : Nat) (F : Nat → Int) (P : Nat → Option Nat) (A : Nat → Int → Int) (f l : Nat → Int) (a : Nat → Int → Int) (b : fk_M) {h : Int} {ρ τ σ : Int → Int} (hK : Kq x P b h ρ τ σ) {p n much : Int} (c : Int32) (hp0 : rg p) (hn : rg n) (hm : rg much) : KL x F P A f l a b (s_odds h ρ σ p n much c) (wy (h = 1 ∧ 0 ≤ p ∧ p < ρ 2) ((0 ≤ n ∧ n ≤ 5) ∧ 0 ≤ much ∧ much ≤ 99)) (f_X1_odds (some x) (ii p) (ii n) (ii much) c (hp x F P A f l a b)) := by
  unfold f_X1_odds s_odds
  have e1 : f_X1_why (some x) (ii (if (h = 1 ∧ 0 ≤ p ∧ p < ρ 2) then 1 else 0)) (ii n) 0 5 (hp x F P A f l a b) = some (ii (wy ((if (h = 1 ∧ 0 ≤ p ∧ p < ρ 2) then (1 : Int) else 0) = 1) (0 ≤ n ∧ n ≤ 5))) := k_why _ _ (lo := 0) (hi := 5) (by split <;> omega) hn (by omega) (by omega)
  simp only [b1_] at e1
  have e2 : f_X1_why (some x) 1 (ii much) 0 99 (hp x F P A f l a b) = some (ii (wy ((1 : Int) = 1) (0 ≤ much ∧ much ≤ 99))) := k_why _ _ (c := 1) (lo := 0) (hi := 99) (by omega) hm (by omega) (by omega)
  rw [ok0, Option.bind_some, k_isPair x F P A f l a b hp0 hK, Option.bind_some, Option.bind_some, e1, Option.bind_some, e2, Option.bind_some, Option.bind_some]
  by_cases c1 : (h = 1 ∧ 0 ≤ p ∧ p < ρ 2)
  rotate_left
  · have hwy : wy (h = 1 ∧ 0 ≤ p ∧ p < ρ 2) ((0 ≤ n ∧ n ≤ 5) ∧ 0 ≤ much ∧ much ≤ 99) = 1 := if_neg c1
    have hwy2 : wy (h = 1 ∧ 0 ≤ p ∧ p < ρ 2) (0 ≤ n ∧ n ≤ 5) = 1 := if_neg c1
    rw [hwy, hwy2, if_neg (show ¬ ii 1 = 0 by decide), if_neg (by decide)]
    unfold f_X1_odds_J30
    rw [if_neg (show ¬ ii 1 ≤ 0 by decide), ok0, Option.bind_some, k_refused, bn2_some]
    exact KL.of A rfl rfl
  by_cases c2 : 0 ≤ n ∧ n ≤ 5
  rotate_left
  · have hwy : wy (h = 1 ∧ 0 ≤ p ∧ p < ρ 2) ((0 ≤ n ∧ n ≤ 5) ∧ 0 ≤ much ∧ much ≤ 99) = 2 := by
      unfold wy
      rw [if_pos c1, if_neg (fun h => c2 h.1)]
    have hwy2 : wy (h = 1 ∧ 0 ≤ p ∧ p < ρ 2) (0 ≤ n ∧ n ≤ 5) = 2 := by
      unfold wy
      rw [if_pos c1, if_neg c2]
    rw [hwy, hwy2, if_neg (show ¬ ii 2 = 0 by decide), if_neg (by decide)]
    unfold f_X1_odds_J30
    rw [if_neg (show ¬ ii 2 ≤ 0 by decide), ok0, Option.bind_some, k_refused, bn2_some]
    exact KL.of A rfl rfl
  have hwy2 : wy (h = 1 ∧ 0 ≤ p ∧ p < ρ 2) (0 ≤ n ∧ n ≤ 5) = 0 := wy_0.mpr ⟨c1, c2⟩
  rw [hwy2, if_pos (show ii 0 = 0 by decide)]
  by_cases c3 : 0 ≤ much ∧ much ≤ 99
  rotate_left
  · have hwy : wy (h = 1 ∧ 0 ≤ p ∧ p < ρ 2) ((0 ≤ n ∧ n ≤ 5) ∧ 0 ≤ much ∧ much ≤ 99) = 2 := by
      unfold wy
      rw [if_pos c1, if_neg (fun h => c3 h.2)]
    have hwy3 : wy ((1 : Int) = 1) (0 ≤ much ∧ much ≤ 99) = 2 := by
      unfold wy
      rw [if_pos rfl, if_neg c3]
    rw [hwy, hwy3, if_neg (by decide)]
    unfold f_X1_odds_J30
    rw [if_neg (show ¬ ii 2 ≤ 0 by decide), ok0, Option.bind_some, k_refused, bn2_some]
    exact KL.of A rfl rfl
  have hwy : wy (h = 1 ∧ 0 ≤ p ∧ p < ρ 2) ((0 ≤ n ∧ n ≤ 5) ∧ 0 ≤ much ∧ much ≤ 99) = 0 := wy_0.mpr ⟨c1, c2, c3⟩
  have hwy3 : wy ((1 : Int) = 1) (0 ≤ much ∧ much ≤ 99) = 0 := wy_0.mpr ⟨rfl, c3⟩
  obtain ⟨rfl, h2, h3⟩ := c1
  obtain ⟨h4, h5⟩ := c2
  obtain ⟨hh, -⟩ | ⟨-, hR, q, lw, hk, pa, sg, un, l5, l6, s1, s2, s3, hA⟩ := hK
  · omega
  have hr := tdn_rg hR much h2 h3 h4 h5
  have hpw := pw_rg h4 h5
  have hp2 := p2_rg h4 h5
  rw [hwy, hwy3, if_pos rfl]
  unfold f_X1_odds_J30
  rw [if_pos (show ii 0 ≤ 0 by decide)]
  refine KL.of A rfl ?_
  have hL := loop_i0 (fun N (u : Int × Int × Int) k => f_X1_odds_L49 (some x) (ii p) (ii n) (ii much) c (hp x F P A f l a b) N (jj u.2.1) (ii k)) (tds ρ σ p n much) (fun u => bn2 (f_X1_fraction (some x) (jj u.2.1) (jj (100 ^ n.toNat)) c (hp x F P A f l a b)) fun z3 m4 => some (z3, m4)) (lo := 0) (hi := p2 n) ?_ ?_ (p2 n).toNat fk_fuel (0, 0, 0) 0 (by omega) (by omega) (by unfold fk_fuel; omega)
  · refine Eq.trans hL ?_
    have e6 := k_fraction x F P A f l a b c (u := (tdn ρ σ p n much).2.1) (v := 100 ^ n.toNat) hr.2.1.1 (by omega) (by omega) (by omega)
    show bn2 (f_X1_fraction (some x) (jj (tdn ρ σ p n much).2.1) (jj (100 ^ n.toNat)) c (hp x F P A f l a b)) _ = _
    rw [e6, bn2_some]
  · intro N u
    have ew := k_whole (hp x F P A f l a b) h4 h5
    try dsimp only
    rw [f_X1_odds_L49]
    simp (disch := first | omega | assumption) only [Option.bind_some, bn2_some, ii_lit, ii_neg, ii_add, ii_sub, ii_mul, ii_le, ii_lt, ii_eq, ii_ite, ii_or, ii_and, ii_bit, ii_rem, ii_div, b0_, b1_, b2_, b3_, true_and, and_true, u1_eq, u1_ne, u2_eq, u2_nk, u2_ni, uP_eq, uP_ne, gk1, gk2, gk3, gk4, gk10, gk11, gk12, gk13, gk14, gk15, gk17, gkr0, gkr7, gkr8, gkr9, gkr16, gkr18, gkr19, gkr5, gkr6, ok0, ok1, ok2, ok3, gl2_0, gl2_1, gl2_2, gl3_0, gl3_1, gl3_2, gm0, gm2, gm3, gm4, gm5, gm6, gm7, gm8, gm9, gm10, gm11, gm13, gm14, gm22, gm23, gm26, gm27, gm28, gm29, gm31, gm32, gm33, gm36, gm37, gm39, gm40, gm41, gm1, gm12, gm15, gm16, gm17, gm18, gm19, gm20, gm21, gm24, gm25, gm30, gm34, gm35, gm38, rk0, sk0, rk9, sk9, rk16, sk16, rk18, sk18, rk19, sk19, rm1, sm1, rm12, sm12, rm15, sm15, rm16, sm16, rm17, sm17, rm18, sm18, rm19, sm19, rm20, sm20, rm21, sm21, rm24, sm24, rm25, sm25, rm30, sm30, rm34, sm34, rm35, sm35, rm38, sm38, pk1, pk2, pk3, pk4, pk10, pk11, pk12, pk13, pk14, pk15, pk17, pkr5, pkr6, pm0, pm2, pm3, pm4, pm5, pm6, pm7, pm8, pm9, pm10, pm11, pm13, pz13_0, pz13_1, pm14, pz14_0, pz14_1, pm22, pm23, pm26, pm27, pm28, pm29, pm31, pm32, pm33, pm36, pm37, pm39, pm40, pm41, pl2_0, pl2_1, pl2_2, pl3_0, pl3_1, pl3_2, ii_shl1, ew]
    rw [if_pos (by omega)]
  · intro N u k k1 k2
    have e2 := k_saysBy x F P A f l a b hR hA (p := p) (n := n) (s := k) h2 h3 h4 h5
    have e3 := k_partOf x F P A f l a b hR hA (n := n) (s := k) p h4 h5
    have hv := wvn_2 hR h2 h3 n k
    have hw := hR.wd
    try dsimp only
    rw [f_X1_odds_L49]
    simp (disch := first | omega | assumption) only [Option.bind_some, bn2_some, ii_lit, ii_neg, ii_add, ii_sub, ii_mul, ii_le, ii_lt, ii_eq, ii_ite, ii_or, ii_and, ii_bit, ii_rem, ii_div, b0_, b1_, b2_, b3_, true_and, and_true, u1_eq, u1_ne, u2_eq, u2_nk, u2_ni, uP_eq, uP_ne, gk1, gk2, gk3, gk4, gk10, gk11, gk12, gk13, gk14, gk15, gk17, gkr0, gkr7, gkr8, gkr9, gkr16, gkr18, gkr19, gkr5, gkr6, ok0, ok1, ok2, ok3, gl2_0, gl2_1, gl2_2, gl3_0, gl3_1, gl3_2, gm0, gm2, gm3, gm4, gm5, gm6, gm7, gm8, gm9, gm10, gm11, gm13, gm14, gm22, gm23, gm26, gm27, gm28, gm29, gm31, gm32, gm33, gm36, gm37, gm39, gm40, gm41, gm1, gm12, gm15, gm16, gm17, gm18, gm19, gm20, gm21, gm24, gm25, gm30, gm34, gm35, gm38, rk0, sk0, rk9, sk9, rk16, sk16, rk18, sk18, rk19, sk19, rm1, sm1, rm12, sm12, rm15, sm15, rm16, sm16, rm17, sm17, rm18, sm18, rm19, sm19, rm20, sm20, rm21, sm21, rm24, sm24, rm25, sm25, rm30, sm30, rm34, sm34, rm35, sm35, rm38, sm38, pk1, pk2, pk3, pk4, pk10, pk11, pk12, pk13, pk14, pk15, pk17, pkr5, pkr6, pm0, pm2, pm3, pm4, pm5, pm6, pm7, pm8, pm9, pm10, pm11, pm13, pz13_0, pz13_1, pm14, pz14_0, pz14_1, pm22, pm23, pm26, pm27, pm28, pm29, pm31, pm32, pm33, pm36, pm37, pm39, pm40, pm41, pl2_0, pl2_1, pl2_2, pl3_0, pl3_1, pl3_2, ii_shl1, e2, e3, f_X1_odds_J82, jj_lit, jj_add]
    rw [if_neg (by omega)]
    unfold tds
    split <;> rfl
