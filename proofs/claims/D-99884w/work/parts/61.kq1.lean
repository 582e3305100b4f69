/-! PLAIN 11: the component's queries of seasons -/
set_option maxRecDepth 100000
/-- what a query of the component keeps -/
def ke (F F' : Nat → Int) : Prop := F' 1 = F 1 ∧ F' 2 = F 2 ∧ F' 100 = F 100 ∧ F' 101 = F 101 ∧ F' 110 = F 110 ∧ F' 111 = F 111
theorem ke.rfl' (F : Nat → Int) : ke F F := ⟨rfl, rfl, rfl, rfl, rfl, rfl⟩
theorem ke.tr {F G H : Nat → Int} (h1 : ke F G) (h2 : ke G H) : ke F H := ⟨h2.1.trans h1.1, h2.2.1.trans h1.2.1, h2.2.2.1.trans h1.2.2.1, h2.2.2.2.1.trans h1.2.2.2.1, h2.2.2.2.2.1.trans h1.2.2.2.2.1, h2.2.2.2.2.2.trans h1.2.2.2.2.2⟩
theorem ke.u (F : Nat → Int) (k : Nat) (v : Int) (h : k = 3 ∨ k = 4 ∨ (10 ≤ k ∧ k < 20)) : ke F (u1 F k v) := ⟨u1_ne _ _ (by omega), u1_ne _ _ (by omega), u1_ne _ _ (by omega), u1_ne _ _ (by omega), u1_ne _ _ (by omega), u1_ne _ _ (by omega)⟩
def KO (x : Nat) (F : Nat → Int) (P : Nat → Option Nat) (A : Nat → Int → Int) (f l : Nat → Int) (a : Nat → Int → Int) (b : fk_M) (r w : Int) (res : Option (Int32 × fk_M)) : Prop := ∃ F' A', res = some (ii r, hp x F' P A' f l a b) ∧ F' 4 = w ∧ F' 3 = -1 ∧ ke F F' ∧ A' 0 = A 0
theorem ke.o (F : Nat → Int) (w : Int) : ke F (Fo F w) := (ke.u F 4 w (by omega)).tr (ke.u _ 3 (-1) (by omega))
theorem Fo_4 (F : Nat → Int) (w : Int) : Fo F w 4 = w := (u1_ne _ _ (by omega)).trans (u1_eq ..)
theorem Fo_3 (F : Nat → Int) (w : Int) : Fo F w 3 = -1 := u1_eq ..
theorem KO.ref (x : Nat) (F : Nat → Int) (P : Nat → Option Nat) (A : Nat → Int → Int) (f l : Nat → Int) (a : Nat → Int → Int) (b : fk_M) (w : Int) : KO x F P A f l a b (-1) w (some (ii (-1), hp x (Fo F w) P A f l a b)) := ⟨Fo F w, A, rfl, Fo_4 .., Fo_3 .., ke.o .., rfl⟩
theorem KO.mk {x : Nat} {F : Nat → Int} {P : Nat → Option Nat} {A : Nat → Int → Int} {f l : Nat → Int} {a : Nat → Int → Int} {b : fk_M} {r : Int} {res : Option (Int32 × fk_M)} (F' : Nat → Int) (A' : Nat → Int → Int) (h1 : ke F F') (h2 : A' 0 = A 0) (h : res = some (ii r, hp x (Fo F' 0) P A' f l a b)) : KO x F P A f l a b r 0 res := ⟨Fo F' 0, A', h, Fo_4 .., Fo_3 .., h1.tr (ke.o ..), h2⟩
theorem k_h01 {x : Nat} {P : Nat → Option Nat} {b : fk_M} {h : Int} {ρ τ σ : Int → Int} (hK : Kq x P b h ρ τ σ) : h = 0 ∨ h = 1 := by
  rcases hK with ⟨h, -⟩ | ⟨h, -⟩
  · exact Or.inl h
  · exact Or.inr h
theorem k_none {x : Nat} {P : Nat → Option Nat} {b : fk_M} {h : Int} {ρ τ σ : Int → Int} (hK : Kq x P b h ρ τ σ) (h0 : ¬ h = 1) : P 5 = none := by
  rcases hK with ⟨-, h⟩ | ⟨h, -⟩
  · exact h
  · exact absurd h h0
theorem k_has {x : Nat} {P : Nat → Option Nat} {b : fk_M} {h : Int} {ρ τ σ : Int → Int} (hK : Kq x P b h ρ τ σ) : (if P 5 = none then (0 : Int32) else 1) = ii h := by
  rcases hK with ⟨rfl, h5⟩ | ⟨rfl, hR, q, lw, hk, pa, sg, un, l5, l6, s1, s2, s3, hA⟩
  · rw [if_pos h5]
    rfl
  · rw [hA.1, if_neg (fun h => by cases h)]
    rfl
theorem k_tOZ (x : Nat) (F : Nat → Int) (P : Nat → Option Nat) (A : Nat → Int → Int) (f l : Nat → Int) (a : Nat → Int → Int) (b : fk_M) {q lw hk : Int → Nat} {pa sg un l5 l6 s1 s2 s3 : Nat} {ρ τ σ : Int → Int} (hR : Rg ρ τ σ) (hA : Api x P b ρ τ σ q lw hk pa sg un l5 l6 s1 s2 s3) {p n : Int} (hp0 : 0 ≤ p) (hp1 : p < ρ 2) (hn0 : 0 ≤ n) (hn : n ≤ 2700) : ∃ A', f_X1_tellsOn (some x) (ii p) (ii n) (hp x F P A f l a b) = some (hp x F P A' f l a b) ∧ (∀ j : Int, 0 ≤ j → j ≤ n → A' 9 j = ts ρ σ p j.toNat) ∧ (∀ i, i ≠ 9 → A' i = A i) := by
  obtain ⟨A', e1, e2, e3⟩ := k_tellsOn x F P A f l a b hR hA (n := n.toNat) hp0 hp1 (by omega)
  rw [Int.toNat_of_nonneg hn0] at e1
  refine ⟨A', e1, fun j h0 h1 => ?_, e3⟩
  have := e2 j.toNat (by omega)
  rwa [Int.toNat_of_nonneg h0] at this
theorem k_tlZ (x : Nat) (F : Nat → Int) (P : Nat → Option Nat) (A : Nat → Int → Int) (f l : Nat → Int) (a : Nat → Int → Int) (b : fk_M) {q lw hk : Int → Nat} {pa sg un l5 l6 s1 s2 s3 : Nat} {ρ τ σ : Int → Int} (hR : Rg ρ τ σ) (hA : Api x P b ρ τ σ q lw hk pa sg un l5 l6 s1 s2 s3) {p s e n : Int} (hp0 : 0 ≤ p) (hp1 : p < ρ 2) (hs : 0 ≤ s) (hs2 : s ≤ 20) (he : 0 ≤ e) (he2 : e ≤ 9) (hn0 : 0 ≤ n) (hn : n ≤ 2700) : ∃ A', f_X1_tells (some x) (ii p) (ii s) (ii e) (ii n) (hp x F P A f l a b) = some (hp x F P A' f l a b) ∧ (∀ j : Int, 0 ≤ j → j ≤ n → A' 9 j = tl ρ σ p s e j.toNat) ∧ (∀ i, i ≠ 9 → A' i = A i) := by
  obtain ⟨A', e1, e2, e3⟩ := k_tells x F P A f l a b hR hA (s := s) (e := e) (n := n.toNat) hp0 hp1 hs hs2 he he2 (by omega)
  rw [Int.toNat_of_nonneg hn0] at e1
  refine ⟨A', e1, fun j h0 h1 => ?_, e3⟩
  have := e2 j.toNat (by omega)
  rwa [Int.toNat_of_nonneg h0] at this
theorem k_says (x : Nat) (F : Nat → Int) (P : Nat → Option Nat) (A : Nat → Int → Int) (f l : Nat → Int) (a : Nat → Int → Int) (b : fk_M) {h : Int} {ρ τ σ : Int → Int} (hK : Kq x P b h ρ τ σ) {p n : Int} (hp0 : rg p) (hn : rg n) : KO x F P A f l a b (s_says h ρ σ p n) (wy (h = 1 ∧ 0 ≤ p ∧ p < ρ 2) (0 ≤ n ∧ n ≤ 60)) (f_X1_says (some x) (ii p) (ii n) (hp x F P A f l a b)) := by
  unfold f_X1_says s_says
  rw [ok0, Option.bind_some, k_isPair x F P A f l a b hp0 hK, Option.bind_some, Option.bind_some, k_whyAhead x F P A f l a b (by (repeat' split) <;> omega) hn, Option.bind_some]
  simp only [b1_]
  have hy := wy_rg (h = 1 ∧ 0 ≤ p ∧ p < ρ 2) (0 ≤ n ∧ n ≤ 60)
  by_cases h0 : wy (h = 1 ∧ 0 ≤ p ∧ p < ρ 2) (0 ≤ n ∧ n ≤ 60) = 0
  rotate_left
  · rw [if_neg h0]
    simp (disch := first | omega | assumption) only [Option.bind_some, bn2_some, ii_lit, ii_neg, ii_add, ii_sub, ii_mul, ii_le, ii_lt, ii_eq, ii_ite, ii_or, ii_and, ii_bit, ii_rem, ii_div, b0_, b1_, b2_, b3_, true_and, and_true, u1_eq, u1_ne, u2_eq, u2_nk, u2_ni, uP_eq, uP_ne, gk1, gk2, gk3, gk4, gk10, gk11, gk12, gk13, gk14, gk15, gk17, gkr0, gkr7, gkr8, gkr9, gkr16, gkr18, gkr19, gkr5, gkr6, ok0, ok1, ok2, ok3, gl2_0, gl2_1, gl2_2, gl3_0, gl3_1, gl3_2, gm0, gm2, gm3, gm4, gm5, gm6, gm7, gm8, gm9, gm10, gm11, gm13, gm14, gm22, gm23, gm26, gm27, gm28, gm29, gm31, gm32, gm33, gm36, gm37, gm39, gm40, gm41, gm1, gm12, gm15, gm16, gm17, gm18, gm19, gm20, gm21, gm24, gm25, gm30, gm34, gm35, gm38, rk0, sk0, rk9, sk9, rk16, sk16, rk18, sk18, rk19, sk19, rm1, sm1, rm12, sm12, rm15, sm15, rm16, sm16, rm17, sm17, rm18, sm18, rm19, sm19, rm20, sm20, rm21, sm21, rm24, sm24, rm25, sm25, rm30, sm30, rm34, sm34, rm35, sm35, rm38, sm38, pk1, pk2, pk3, pk4, pk10, pk11, pk12, pk13, pk14, pk15, pk17, pkr5, pkr6, pm0, pm2, pm3, pm4, pm5, pm6, pm7, pm8, pm9, pm10, pm11, pm13, pz13_0, pz13_1, pm14, pz14_0, pz14_1, pm22, pm23, pm26, pm27, pm28, pm29, pm31, pm32, pm33, pm36, pm37, pm39, pm40, pm41, pl2_0, pl2_1, pl2_2, pl3_0, pl3_1, pl3_2, k_refused]
    rw [if_neg (by omega)]
    exact KO.ref ..
  obtain ⟨⟨rfl, hp1, hp2⟩, hn0, hn1⟩ := wy_0.mp h0
  rw [h0, if_pos (show (0 : Int) = 0 from rfl), if_pos (show ii 0 ≤ 0 by decide)]
  obtain ⟨hh, -⟩ | ⟨-, hR, q, lw, hk, pa, sg, un, l5, l6, s1, s2, s3, hA⟩ := hK
  · omega
  have hw := hR.wd
  have hq := hR.pr hp1 hp2
  clear h0 hy
  obtain ⟨A', e1, e2, e3⟩ := k_tOZ x F P A f l a b hR hA hp1 hp2 hn0 (by omega)
  have e4 := e2 n hn0 (Int.le_refl n)
  refine KO.mk F A' (ke.rfl' _) (e3 0 (by omega)) ?_
  simp (disch := first | omega | assumption) only [Option.bind_some, bn2_some, ii_lit, ii_neg, ii_add, ii_sub, ii_mul, ii_le, ii_lt, ii_eq, ii_ite, ii_or, ii_and, ii_bit, ii_rem, ii_div, b0_, b1_, b2_, b3_, true_and, and_true, u1_eq, u1_ne, u2_eq, u2_nk, u2_ni, uP_eq, uP_ne, gk1, gk2, gk3, gk4, gk10, gk11, gk12, gk13, gk14, gk15, gk17, gkr0, gkr7, gkr8, gkr9, gkr16, gkr18, gkr19, gkr5, gkr6, ok0, ok1, ok2, ok3, gl2_0, gl2_1, gl2_2, gl3_0, gl3_1, gl3_2, gm0, gm2, gm3, gm4, gm5, gm6, gm7, gm8, gm9, gm10, gm11, gm13, gm14, gm22, gm23, gm26, gm27, gm28, gm29, gm31, gm32, gm33, gm36, gm37, gm39, gm40, gm41, gm1, gm12, gm15, gm16, gm17, gm18, gm19, gm20, gm21, gm24, gm25, gm30, gm34, gm35, gm38, rk0, sk0, rk9, sk9, rk16, sk16, rk18, sk18, rk19, sk19, rm1, sm1, rm12, sm12, rm15, sm15, rm16, sm16, rm17, sm17, rm18, sm18, rm19, sm19, rm20, sm20, rm21, sm21, rm24, sm24, rm25, sm25, rm30, sm30, rm34, sm34, rm35, sm35, rm38, sm38, pk1, pk2, pk3, pk4, pk10, pk11, pk12, pk13, pk14, pk15, pk17, pkr5, pkr6, pm0, pm2, pm3, pm4, pm5, pm6, pm7, pm8, pm9, pm10, pm11, pm13, pz13_0, pz13_1, pm14, pz14_0, pz14_1, pm22, pm23, pm26, pm27, pm28, pm29, pm31, pm32, pm33, pm36, pm37, pm39, pm40, pm41, pl2_0, pl2_1, pl2_2, pl3_0, pl3_1, pl3_2, e1, e4, k_well]
theorem k_saysAll (x : Nat) (F : Nat → Int) (P : Nat → Option Nat) (A : Nat → Int → Int) (f l : Nat → Int) (a : Nat → Int → Int) (b : fk_M) {h : Int} {ρ τ σ : Int → Int} (hK : Kq x P b h ρ τ σ) {p n : Int} (hp0 : rg p) (hn : rg n) : KO x F P A f l a b (s_saysAll h ρ σ p n) (wy (h = 1 ∧ 0 ≤ p ∧ p < ρ 2) (0 ≤ n ∧ n ≤ 60)) (f_X1_saysAll (some x) (ii p) (ii n) (hp x F P A f l a b)) := by
  unfold f_X1_saysAll s_saysAll
  rw [ok0, Option.bind_some, k_isPair x F P A f l a b hp0 hK, Option.bind_some, Option.bind_some, k_whyAhead x F P A f l a b (by (repeat' split) <;> omega) hn, Option.bind_some]
  simp only [b1_]
  have hy := wy_rg (h = 1 ∧ 0 ≤ p ∧ p < ρ 2) (0 ≤ n ∧ n ≤ 60)
  by_cases h0 : wy (h = 1 ∧ 0 ≤ p ∧ p < ρ 2) (0 ≤ n ∧ n ≤ 60) = 0
  rotate_left
  · rw [if_neg h0]
    simp (disch := first | omega | assumption) only [Option.bind_some, bn2_some, ii_lit, ii_neg, ii_add, ii_sub, ii_mul, ii_le, ii_lt, ii_eq, ii_ite, ii_or, ii_and, ii_bit, ii_rem, ii_div, b0_, b1_, b2_, b3_, true_and, and_true, u1_eq, u1_ne, u2_eq, u2_nk, u2_ni, uP_eq, uP_ne, gk1, gk2, gk3, gk4, gk10, gk11, gk12, gk13, gk14, gk15, gk17, gkr0, gkr7, gkr8, gkr9, gkr16, gkr18, gkr19, gkr5, gkr6, ok0, ok1, ok2, ok3, gl2_0, gl2_1, gl2_2, gl3_0, gl3_1, gl3_2, gm0, gm2, gm3, gm4, gm5, gm6, gm7, gm8, gm9, gm10, gm11, gm13, gm14, gm22, gm23, gm26, gm27, gm28, gm29, gm31, gm32, gm33, gm36, gm37, gm39, gm40, gm41, gm1, gm12, gm15, gm16, gm17, gm18, gm19, gm20, gm21, gm24, gm25, gm30, gm34, gm35, gm38, rk0, sk0, rk9, sk9, rk16, sk16, rk18, sk18, rk19, sk19, rm1, sm1, rm12, sm12, rm15, sm15, rm16, sm16, rm17, sm17, rm18, sm18, rm19, sm19, rm20, sm20, rm21, sm21, rm24, sm24, rm25, sm25, rm30, sm30, rm34, sm34, rm35, sm35, rm38, sm38, pk1, pk2, pk3, pk4, pk10, pk11, pk12, pk13, pk14, pk15, pk17, pkr5, pkr6, pm0, pm2, pm3, pm4, pm5, pm6, pm7, pm8, pm9, pm10, pm11, pm13, pz13_0, pz13_1, pm14, pz14_0, pz14_1, pm22, pm23, pm26, pm27, pm28, pm29, pm31, pm32, pm33, pm36, pm37, pm39, pm40, pm41, pl2_0, pl2_1, pl2_2, pl3_0, pl3_1, pl3_2, k_refused]
    rw [if_neg (by omega)]
    exact KO.ref ..
  obtain ⟨⟨rfl, hp1, hp2⟩, hn0, hn1⟩ := wy_0.mp h0
  rw [h0, if_pos (show (0 : Int) = 0 from rfl), if_pos (show ii 0 ≤ 0 by decide)]
  obtain ⟨hh, -⟩ | ⟨-, hR, q, lw, hk, pa, sg, un, l5, l6, s1, s2, s3, hA⟩ := hK
  · omega
  have hw := hR.wd
  have hq := hR.pr hp1 hp2
  clear h0 hy
  obtain ⟨A', e1, e2, e3⟩ := k_tOZ x F P A f l a b hR hA hp1 hp2 hn0 (by omega)
  refine KO.mk F A' (ke.rfl' _) (e3 0 (by omega)) ?_
  simp (disch := first | omega | assumption) only [Option.bind_some, bn2_some, ii_lit, ii_neg, ii_add, ii_sub, ii_mul, ii_le, ii_lt, ii_eq, ii_ite, ii_or, ii_and, ii_bit, ii_rem, ii_div, b0_, b1_, b2_, b3_, true_and, and_true, u1_eq, u1_ne, u2_eq, u2_nk, u2_ni, uP_eq, uP_ne, gk1, gk2, gk3, gk4, gk10, gk11, gk12, gk13, gk14, gk15, gk17, gkr0, gkr7, gkr8, gkr9, gkr16, gkr18, gkr19, gkr5, gkr6, ok0, ok1, ok2, ok3, gl2_0, gl2_1, gl2_2, gl3_0, gl3_1, gl3_2, gm0, gm2, gm3, gm4, gm5, gm6, gm7, gm8, gm9, gm10, gm11, gm13, gm14, gm22, gm23, gm26, gm27, gm28, gm29, gm31, gm32, gm33, gm36, gm37, gm39, gm40, gm41, gm1, gm12, gm15, gm16, gm17, gm18, gm19, gm20, gm21, gm24, gm25, gm30, gm34, gm35, gm38, rk0, sk0, rk9, sk9, rk16, sk16, rk18, sk18, rk19, sk19, rm1, sm1, rm12, sm12, rm15, sm15, rm16, sm16, rm17, sm17, rm18, sm18, rm19, sm19, rm20, sm20, rm21, sm21, rm24, sm24, rm25, sm25, rm30, sm30, rm34, sm34, rm35, sm35, rm38, sm38, pk1, pk2, pk3, pk4, pk10, pk11, pk12, pk13, pk14, pk15, pk17, pkr5, pkr6, pm0, pm2, pm3, pm4, pm5, pm6, pm7, pm8, pm9, pm10, pm11, pm13, pz13_0, pz13_1, pm14, pz14_0, pz14_1, pm22, pm23, pm26, pm27, pm28, pm29, pm31, pm32, pm33, pm36, pm37, pm39, pm40, pm41, pl2_0, pl2_1, pl2_2, pl3_0, pl3_1, pl3_2, e1]
  refine loop_i0 (fun N u k => f_X1_saysAll_L33 (some x) (ii n) (hp x F P A' f l a b) N (ii u) (ii k)) (fun u k => u + ts ρ σ p k.toNat) (fun u => some (ii u, hp x (Fo F 0) P A' f l a b)) (lo := 1) (hi := n + 1) ?_ ?_ n.toNat fk_fuel 0 1 (by omega) (by omega) (by unfold fk_fuel; omega)
  · intros
    try dsimp only
    rw [f_X1_saysAll_L33]
    simp (disch := first | omega | assumption) only [Option.bind_some, bn2_some, ii_lit, ii_neg, ii_add, ii_sub, ii_mul, ii_le, ii_lt, ii_eq, ii_ite, ii_or, ii_and, ii_bit, ii_rem, ii_div, b0_, b1_, b2_, b3_, true_and, and_true, u1_eq, u1_ne, u2_eq, u2_nk, u2_ni, uP_eq, uP_ne, gk1, gk2, gk3, gk4, gk10, gk11, gk12, gk13, gk14, gk15, gk17, gkr0, gkr7, gkr8, gkr9, gkr16, gkr18, gkr19, gkr5, gkr6, ok0, ok1, ok2, ok3, gl2_0, gl2_1, gl2_2, gl3_0, gl3_1, gl3_2, gm0, gm2, gm3, gm4, gm5, gm6, gm7, gm8, gm9, gm10, gm11, gm13, gm14, gm22, gm23, gm26, gm27, gm28, gm29, gm31, gm32, gm33, gm36, gm37, gm39, gm40, gm41, gm1, gm12, gm15, gm16, gm17, gm18, gm19, gm20, gm21, gm24, gm25, gm30, gm34, gm35, gm38, rk0, sk0, rk9, sk9, rk16, sk16, rk18, sk18, rk19, sk19, rm1, sm1, rm12, sm12, rm15, sm15, rm16, sm16, rm17, sm17, rm18, sm18, rm19, sm19, rm20, sm20, rm21, sm21, rm24, sm24, rm25, sm25, rm30, sm30, rm34, sm34, rm35, sm35, rm38, sm38, pk1, pk2, pk3, pk4, pk10, pk11, pk12, pk13, pk14, pk15, pk17, pkr5, pkr6, pm0, pm2, pm3, pm4, pm5, pm6, pm7, pm8, pm9, pm10, pm11, pm13, pz13_0, pz13_1, pm14, pz14_0, pz14_1, pm22, pm23, pm26, pm27, pm28, pm29, pm31, pm32, pm33, pm36, pm37, pm39, pm40, pm41, pl2_0, pl2_1, pl2_2, pl3_0, pl3_1, pl3_2, k_well]
    rw [if_pos (by omega)]
  · intro N u k k1 k2
    have e4 := e2 k (by omega) (by omega)
    try dsimp only
    rw [f_X1_saysAll_L33]
    simp (disch := first | omega | assumption) only [Option.bind_some, bn2_some, ii_lit, ii_neg, ii_add, ii_sub, ii_mul, ii_le, ii_lt, ii_eq, ii_ite, ii_or, ii_and, ii_bit, ii_rem, ii_div, b0_, b1_, b2_, b3_, true_and, and_true, u1_eq, u1_ne, u2_eq, u2_nk, u2_ni, uP_eq, uP_ne, gk1, gk2, gk3, gk4, gk10, gk11, gk12, gk13, gk14, gk15, gk17, gkr0, gkr7, gkr8, gkr9, gkr16, gkr18, gkr19, gkr5, gkr6, ok0, ok1, ok2, ok3, gl2_0, gl2_1, gl2_2, gl3_0, gl3_1, gl3_2, gm0, gm2, gm3, gm4, gm5, gm6, gm7, gm8, gm9, gm10, gm11, gm13, gm14, gm22, gm23, gm26, gm27, gm28, gm29, gm31, gm32, gm33, gm36, gm37, gm39, gm40, gm41, gm1, gm12, gm15, gm16, gm17, gm18, gm19, gm20, gm21, gm24, gm25, gm30, gm34, gm35, gm38, rk0, sk0, rk9, sk9, rk16, sk16, rk18, sk18, rk19, sk19, rm1, sm1, rm12, sm12, rm15, sm15, rm16, sm16, rm17, sm17, rm18, sm18, rm19, sm19, rm20, sm20, rm21, sm21, rm24, sm24, rm25, sm25, rm30, sm30, rm34, sm34, rm35, sm35, rm38, sm38, pk1, pk2, pk3, pk4, pk10, pk11, pk12, pk13, pk14, pk15, pk17, pkr5, pkr6, pm0, pm2, pm3, pm4, pm5, pm6, pm7, pm8, pm9, pm10, pm11, pm13, pz13_0, pz13_1, pm14, pz14_0, pz14_1, pm22, pm23, pm26, pm27, pm28, pm29, pm31, pm32, pm33, pm36, pm37, pm39, pm40, pm41, pl2_0, pl2_1, pl2_2, pl3_0, pl3_1, pl3_2, e4]
    rw [if_neg (by omega)]
theorem k_moreIn (x : Nat) (F : Nat → Int) (P : Nat → Option Nat) (A : Nat → Int → Int) (f l : Nat → Int) (a : Nat → Int → Int) (b : fk_M) {h : Int} {ρ τ σ : Int → Int} (hK : Kq x P b h ρ τ σ) {p : Int} (hp0 : rg p) : KO x F P A f l a b (s_moreIn h ρ σ p) (if (h = 1 ∧ 0 ≤ p ∧ p < ρ 2) then 0 else 1) (f_X1_moreIn (some x) (ii p) (hp x F P A f l a b)) := by
  unfold f_X1_moreIn s_moreIn
  rw [ok0, Option.bind_some, k_isPair x F P A f l a b hp0 hK, Option.bind_some]
  by_cases h0 : (h = 1 ∧ 0 ≤ p ∧ p < ρ 2)
  rotate_left
  · rw [if_neg h0, if_neg h0, if_neg h0, if_pos (show ii 0 = 0 by decide)]
    simp (disch := first | omega | assumption) only [Option.bind_some, bn2_some, ii_lit, ii_neg, ii_add, ii_sub, ii_mul, ii_le, ii_lt, ii_eq, ii_ite, ii_or, ii_and, ii_bit, ii_rem, ii_div, b0_, b1_, b2_, b3_, true_and, and_true, u1_eq, u1_ne, u2_eq, u2_nk, u2_ni, uP_eq, uP_ne, gk1, gk2, gk3, gk4, gk10, gk11, gk12, gk13, gk14, gk15, gk17, gkr0, gkr7, gkr8, gkr9, gkr16, gkr18, gkr19, gkr5, gkr6, ok0, ok1, ok2, ok3, gl2_0, gl2_1, gl2_2, gl3_0, gl3_1, gl3_2, gm0, gm2, gm3, gm4, gm5, gm6, gm7, gm8, gm9, gm10, gm11, gm13, gm14, gm22, gm23, gm26, gm27, gm28, gm29, gm31, gm32, gm33, gm36, gm37, gm39, gm40, gm41, gm1, gm12, gm15, gm16, gm17, gm18, gm19, gm20, gm21, gm24, gm25, gm30, gm34, gm35, gm38, rk0, sk0, rk9, sk9, rk16, sk16, rk18, sk18, rk19, sk19, rm1, sm1, rm12, sm12, rm15, sm15, rm16, sm16, rm17, sm17, rm18, sm18, rm19, sm19, rm20, sm20, rm21, sm21, rm24, sm24, rm25, sm25, rm30, sm30, rm34, sm34, rm35, sm35, rm38, sm38, pk1, pk2, pk3, pk4, pk10, pk11, pk12, pk13, pk14, pk15, pk17, pkr5, pkr6, pm0, pm2, pm3, pm4, pm5, pm6, pm7, pm8, pm9, pm10, pm11, pm13, pz13_0, pz13_1, pm14, pz14_0, pz14_1, pm22, pm23, pm26, pm27, pm28, pm29, pm31, pm32, pm33, pm36, pm37, pm39, pm40, pm41, pl2_0, pl2_1, pl2_2, pl3_0, pl3_1, pl3_2, k_refused]
    exact KO.ref ..
  rw [if_pos h0, if_pos h0, if_pos h0, if_neg (show ¬ ii 1 = 0 by decide)]
  obtain ⟨rfl, hp1, hp2⟩ := h0
  obtain ⟨hh, -⟩ | ⟨-, hR, q, lw, hk, pa, sg, un, l5, l6, s1, s2, s3, hA⟩ := hK
  · omega
  have hw := hR.wd
  have hq := hR.pr hp1 hp2
  obtain ⟨A', e1, e2, e3⟩ := k_tOZ x F P A f l a b hR hA (n := 60) hp1 hp2 (by omega) (by omega)
  refine KO.mk F A' (ke.rfl' _) (e3 0 (by omega)) ?_
  simp (disch := first | omega | assumption) only [Option.bind_some, bn2_some, ii_lit, ii_neg, ii_add, ii_sub, ii_mul, ii_le, ii_lt, ii_eq, ii_ite, ii_or, ii_and, ii_bit, ii_rem, ii_div, b0_, b1_, b2_, b3_, true_and, and_true, u1_eq, u1_ne, u2_eq, u2_nk, u2_ni, uP_eq, uP_ne, gk1, gk2, gk3, gk4, gk10, gk11, gk12, gk13, gk14, gk15, gk17, gkr0, gkr7, gkr8, gkr9, gkr16, gkr18, gkr19, gkr5, gkr6, ok0, ok1, ok2, ok3, gl2_0, gl2_1, gl2_2, gl3_0, gl3_1, gl3_2, gm0, gm2, gm3, gm4, gm5, gm6, gm7, gm8, gm9, gm10, gm11, gm13, gm14, gm22, gm23, gm26, gm27, gm28, gm29, gm31, gm32, gm33, gm36, gm37, gm39, gm40, gm41, gm1, gm12, gm15, gm16, gm17, gm18, gm19, gm20, gm21, gm24, gm25, gm30, gm34, gm35, gm38, rk0, sk0, rk9, sk9, rk16, sk16, rk18, sk18, rk19, sk19, rm1, sm1, rm12, sm12, rm15, sm15, rm16, sm16, rm17, sm17, rm18, sm18, rm19, sm19, rm20, sm20, rm21, sm21, rm24, sm24, rm25, sm25, rm30, sm30, rm34, sm34, rm35, sm35, rm38, sm38, pk1, pk2, pk3, pk4, pk10, pk11, pk12, pk13, pk14, pk15, pk17, pkr5, pkr6, pm0, pm2, pm3, pm4, pm5, pm6, pm7, pm8, pm9, pm10, pm11, pm13, pz13_0, pz13_1, pm14, pz14_0, pz14_1, pm22, pm23, pm26, pm27, pm28, pm29, pm31, pm32, pm33, pm36, pm37, pm39, pm40, pm41, pl2_0, pl2_1, pl2_2, pl3_0, pl3_1, pl3_2, e1]
  refine loop_fd (fun N k => f_X1_moreIn_L23 (some x) (hp x F P A' f l a b) N (ii k)) (fun k => ρ 0 < 2 * ts ρ σ p k.toNat) (fun u => some (ii u, hp x (Fo F 0) P A' f l a b)) (-2) (lo := 0) (hi := 61) ?_ ?_ 61 fk_fuel 0 (by omega) (by omega) (by unfold fk_fuel; omega)
  · intros
    try dsimp only
    rw [f_X1_moreIn_L23]
    simp (disch := first | omega | assumption) only [Option.bind_some, bn2_some, ii_lit, ii_neg, ii_add, ii_sub, ii_mul, ii_le, ii_lt, ii_eq, ii_ite, ii_or, ii_and, ii_bit, ii_rem, ii_div, b0_, b1_, b2_, b3_, true_and, and_true, u1_eq, u1_ne, u2_eq, u2_nk, u2_ni, uP_eq, uP_ne, gk1, gk2, gk3, gk4, gk10, gk11, gk12, gk13, gk14, gk15, gk17, gkr0, gkr7, gkr8, gkr9, gkr16, gkr18, gkr19, gkr5, gkr6, ok0, ok1, ok2, ok3, gl2_0, gl2_1, gl2_2, gl3_0, gl3_1, gl3_2, gm0, gm2, gm3, gm4, gm5, gm6, gm7, gm8, gm9, gm10, gm11, gm13, gm14, gm22, gm23, gm26, gm27, gm28, gm29, gm31, gm32, gm33, gm36, gm37, gm39, gm40, gm41, gm1, gm12, gm15, gm16, gm17, gm18, gm19, gm20, gm21, gm24, gm25, gm30, gm34, gm35, gm38, rk0, sk0, rk9, sk9, rk16, sk16, rk18, sk18, rk19, sk19, rm1, sm1, rm12, sm12, rm15, sm15, rm16, sm16, rm17, sm17, rm18, sm18, rm19, sm19, rm20, sm20, rm21, sm21, rm24, sm24, rm25, sm25, rm30, sm30, rm34, sm34, rm35, sm35, rm38, sm38, pk1, pk2, pk3, pk4, pk10, pk11, pk12, pk13, pk14, pk15, pk17, pkr5, pkr6, pm0, pm2, pm3, pm4, pm5, pm6, pm7, pm8, pm9, pm10, pm11, pm13, pz13_0, pz13_1, pm14, pz14_0, pz14_1, pm22, pm23, pm26, pm27, pm28, pm29, pm31, pm32, pm33, pm36, pm37, pm39, pm40, pm41, pl2_0, pl2_1, pl2_2, pl3_0, pl3_1, pl3_2, k_well]
    rw [if_pos (by omega)]
  · intro N k k1 k2
    have e4 := e2 k (by omega) (by omega)
    have ht := ts_rg hR hp1 hp2 k.toNat
    have e5 := k_isMore x F P A' f l a b hR hA (v := ts ρ σ p k.toNat) (by omega) (by omega)
    try dsimp only
    rw [f_X1_moreIn_L23]
    simp (disch := first | omega | assumption) only [Option.bind_some, bn2_some, ii_lit, ii_neg, ii_add, ii_sub, ii_mul, ii_le, ii_lt, ii_eq, ii_ite, ii_or, ii_and, ii_bit, ii_rem, ii_div, b0_, b1_, b2_, b3_, true_and, and_true, u1_eq, u1_ne, u2_eq, u2_nk, u2_ni, uP_eq, uP_ne, gk1, gk2, gk3, gk4, gk10, gk11, gk12, gk13, gk14, gk15, gk17, gkr0, gkr7, gkr8, gkr9, gkr16, gkr18, gkr19, gkr5, gkr6, ok0, ok1, ok2, ok3, gl2_0, gl2_1, gl2_2, gl3_0, gl3_1, gl3_2, gm0, gm2, gm3, gm4, gm5, gm6, gm7, gm8, gm9, gm10, gm11, gm13, gm14, gm22, gm23, gm26, gm27, gm28, gm29, gm31, gm32, gm33, gm36, gm37, gm39, gm40, gm41, gm1, gm12, gm15, gm16, gm17, gm18, gm19, gm20, gm21, gm24, gm25, gm30, gm34, gm35, gm38, rk0, sk0, rk9, sk9, rk16, sk16, rk18, sk18, rk19, sk19, rm1, sm1, rm12, sm12, rm15, sm15, rm16, sm16, rm17, sm17, rm18, sm18, rm19, sm19, rm20, sm20, rm21, sm21, rm24, sm24, rm25, sm25, rm30, sm30, rm34, sm34, rm35, sm35, rm38, sm38, pk1, pk2, pk3, pk4, pk10, pk11, pk12, pk13, pk14, pk15, pk17, pkr5, pkr6, pm0, pm2, pm3, pm4, pm5, pm6, pm7, pm8, pm9, pm10, pm11, pm13, pz13_0, pz13_1, pm14, pz14_0, pz14_1, pm22, pm23, pm26, pm27, pm28, pm29, pm31, pm32, pm33, pm36, pm37, pm39, pm40, pm41, pl2_0, pl2_1, pl2_2, pl3_0, pl3_1, pl3_2, e4, e5, k_well]
    rw [if_neg (by omega)]
    (repeat' split) <;> first | rfl | omega
theorem k_moreTimes (x : Nat) (F : Nat → Int) (P : Nat → Option Nat) (A : Nat → Int → Int) (f l : Nat → Int) (a : Nat → Int → Int) (b : fk_M) {h : Int} {ρ τ σ : Int → Int} (hK : Kq x P b h ρ τ σ) {p n : Int} (hp0 : rg p) (hn : rg n) : KO x F P A f l a b (s_moreTimes h ρ σ p n) (wy (h = 1 ∧ 0 ≤ p ∧ p < ρ 2) (0 ≤ n ∧ n ≤ 60)) (f_X1_moreTimes (some x) (ii p) (ii n) (hp x F P A f l a b)) := by
  unfold f_X1_moreTimes s_moreTimes
  rw [ok0, Option.bind_some, k_isPair x F P A f l a b hp0 hK, Option.bind_some, Option.bind_some, k_whyAhead x F P A f l a b (by (repeat' split) <;> omega) hn, Option.bind_some]
  simp only [b1_]
  have hy := wy_rg (h = 1 ∧ 0 ≤ p ∧ p < ρ 2) (0 ≤ n ∧ n ≤ 60)
  by_cases h0 : wy (h = 1 ∧ 0 ≤ p ∧ p < ρ 2) (0 ≤ n ∧ n ≤ 60) = 0
  rotate_left
  · rw [if_neg h0]
    simp (disch := first | omega | assumption) only [Option.bind_some, bn2_some, ii_lit, ii_neg, ii_add, ii_sub, ii_mul, ii_le, ii_lt, ii_eq, ii_ite, ii_or, ii_and, ii_bit, ii_rem, ii_div, b0_, b1_, b2_, b3_, true_and, and_true, u1_eq, u1_ne, u2_eq, u2_nk, u2_ni, uP_eq, uP_ne, gk1, gk2, gk3, gk4, gk10, gk11, gk12, gk13, gk14, gk15, gk17, gkr0, gkr7, gkr8, gkr9, gkr16, gkr18, gkr19, gkr5, gkr6, ok0, ok1, ok2, ok3, gl2_0, gl2_1, gl2_2, gl3_0, gl3_1, gl3_2, gm0, gm2, gm3, gm4, gm5, gm6, gm7, gm8, gm9, gm10, gm11, gm13, gm14, gm22, gm23, gm26, gm27, gm28, gm29, gm31, gm32, gm33, gm36, gm37, gm39, gm40, gm41, gm1, gm12, gm15, gm16, gm17, gm18, gm19, gm20, gm21, gm24, gm25, gm30, gm34, gm35, gm38, rk0, sk0, rk9, sk9, rk16, sk16, rk18, sk18, rk19, sk19, rm1, sm1, rm12, sm12, rm15, sm15, rm16, sm16, rm17, sm17, rm18, sm18, rm19, sm19, rm20, sm20, rm21, sm21, rm24, sm24, rm25, sm25, rm30, sm30, rm34, sm34, rm35, sm35, rm38, sm38, pk1, pk2, pk3, pk4, pk10, pk11, pk12, pk13, pk14, pk15, pk17, pkr5, pkr6, pm0, pm2, pm3, pm4, pm5, pm6, pm7, pm8, pm9, pm10, pm11, pm13, pz13_0, pz13_1, pm14, pz14_0, pz14_1, pm22, pm23, pm26, pm27, pm28, pm29, pm31, pm32, pm33, pm36, pm37, pm39, pm40, pm41, pl2_0, pl2_1, pl2_2, pl3_0, pl3_1, pl3_2, k_refused]
    rw [if_neg (by omega)]
    exact KO.ref ..
  obtain ⟨⟨rfl, hp1, hp2⟩, hn0, hn1⟩ := wy_0.mp h0
  rw [h0, if_pos (show (0 : Int) = 0 from rfl), if_pos (show ii 0 ≤ 0 by decide)]
  obtain ⟨hh, -⟩ | ⟨-, hR, q, lw, hk, pa, sg, un, l5, l6, s1, s2, s3, hA⟩ := hK
  · omega
  have hw := hR.wd
  have hq := hR.pr hp1 hp2
  clear h0 hy
  obtain ⟨A', e1, e2, e3⟩ := k_tOZ x F P A f l a b hR hA hp1 hp2 hn0 (by omega)
  refine KO.mk F A' (ke.rfl' _) (e3 0 (by omega)) ?_
  simp (disch := first | omega | assumption) only [Option.bind_some, bn2_some, ii_lit, ii_neg, ii_add, ii_sub, ii_mul, ii_le, ii_lt, ii_eq, ii_ite, ii_or, ii_and, ii_bit, ii_rem, ii_div, b0_, b1_, b2_, b3_, true_and, and_true, u1_eq, u1_ne, u2_eq, u2_nk, u2_ni, uP_eq, uP_ne, gk1, gk2, gk3, gk4, gk10, gk11, gk12, gk13, gk14, gk15, gk17, gkr0, gkr7, gkr8, gkr9, gkr16, gkr18, gkr19, gkr5, gkr6, ok0, ok1, ok2, ok3, gl2_0, gl2_1, gl2_2, gl3_0, gl3_1, gl3_2, gm0, gm2, gm3, gm4, gm5, gm6, gm7, gm8, gm9, gm10, gm11, gm13, gm14, gm22, gm23, gm26, gm27, gm28, gm29, gm31, gm32, gm33, gm36, gm37, gm39, gm40, gm41, gm1, gm12, gm15, gm16, gm17, gm18, gm19, gm20, gm21, gm24, gm25, gm30, gm34, gm35, gm38, rk0, sk0, rk9, sk9, rk16, sk16, rk18, sk18, rk19, sk19, rm1, sm1, rm12, sm12, rm15, sm15, rm16, sm16, rm17, sm17, rm18, sm18, rm19, sm19, rm20, sm20, rm21, sm21, rm24, sm24, rm25, sm25, rm30, sm30, rm34, sm34, rm35, sm35, rm38, sm38, pk1, pk2, pk3, pk4, pk10, pk11, pk12, pk13, pk14, pk15, pk17, pkr5, pkr6, pm0, pm2, pm3, pm4, pm5, pm6, pm7, pm8, pm9, pm10, pm11, pm13, pz13_0, pz13_1, pm14, pz14_0, pz14_1, pm22, pm23, pm26, pm27, pm28, pm29, pm31, pm32, pm33, pm36, pm37, pm39, pm40, pm41, pl2_0, pl2_1, pl2_2, pl3_0, pl3_1, pl3_2, e1]
  refine loop_i0 (fun N u k => f_X1_moreTimes_L33 (some x) (ii n) (hp x F P A' f l a b) N (ii u) (ii k)) (fun u k => u + (if ρ 0 < 2 * ts ρ σ p k.toNat then 1 else 0)) (fun u => some (ii u, hp x (Fo F 0) P A' f l a b)) (lo := 1) (hi := n + 1) ?_ ?_ n.toNat fk_fuel 0 1 (by omega) (by omega) (by unfold fk_fuel; omega)
  · intros
    try dsimp only
    rw [f_X1_moreTimes_L33]
    simp (disch := first | omega | assumption) only [Option.bind_some, bn2_some, ii_lit, ii_neg, ii_add, ii_sub, ii_mul, ii_le, ii_lt, ii_eq, ii_ite, ii_or, ii_and, ii_bit, ii_rem, ii_div, b0_, b1_, b2_, b3_, true_and, and_true, u1_eq, u1_ne, u2_eq, u2_nk, u2_ni, uP_eq, uP_ne, gk1, gk2, gk3, gk4, gk10, gk11, gk12, gk13, gk14, gk15, gk17, gkr0, gkr7, gkr8, gkr9, gkr16, gkr18, gkr19, gkr5, gkr6, ok0, ok1, ok2, ok3, gl2_0, gl2_1, gl2_2, gl3_0, gl3_1, gl3_2, gm0, gm2, gm3, gm4, gm5, gm6, gm7, gm8, gm9, gm10, gm11, gm13, gm14, gm22, gm23, gm26, gm27, gm28, gm29, gm31, gm32, gm33, gm36, gm37, gm39, gm40, gm41, gm1, gm12, gm15, gm16, gm17, gm18, gm19, gm20, gm21, gm24, gm25, gm30, gm34, gm35, gm38, rk0, sk0, rk9, sk9, rk16, sk16, rk18, sk18, rk19, sk19, rm1, sm1, rm12, sm12, rm15, sm15, rm16, sm16, rm17, sm17, rm18, sm18, rm19, sm19, rm20, sm20, rm21, sm21, rm24, sm24, rm25, sm25, rm30, sm30, rm34, sm34, rm35, sm35, rm38, sm38, pk1, pk2, pk3, pk4, pk10, pk11, pk12, pk13, pk14, pk15, pk17, pkr5, pkr6, pm0, pm2, pm3, pm4, pm5, pm6, pm7, pm8, pm9, pm10, pm11, pm13, pz13_0, pz13_1, pm14, pz14_0, pz14_1, pm22, pm23, pm26, pm27, pm28, pm29, pm31, pm32, pm33, pm36, pm37, pm39, pm40, pm41, pl2_0, pl2_1, pl2_2, pl3_0, pl3_1, pl3_2, k_well]
    rw [if_pos (by omega)]
  · intro N u k k1 k2
    have e4 := e2 k (by omega) (by omega)
    have ht := ts_rg hR hp1 hp2 k.toNat
    have e5 := k_isMore x F P A' f l a b hR hA (v := ts ρ σ p k.toNat) (by omega) (by omega)
    try dsimp only
    rw [f_X1_moreTimes_L33]
    simp (disch := first | omega | assumption) only [Option.bind_some, bn2_some, ii_lit, ii_neg, ii_add, ii_sub, ii_mul, ii_le, ii_lt, ii_eq, ii_ite, ii_or, ii_and, ii_bit, ii_rem, ii_div, b0_, b1_, b2_, b3_, true_and, and_true, u1_eq, u1_ne, u2_eq, u2_nk, u2_ni, uP_eq, uP_ne, gk1, gk2, gk3, gk4, gk10, gk11, gk12, gk13, gk14, gk15, gk17, gkr0, gkr7, gkr8, gkr9, gkr16, gkr18, gkr19, gkr5, gkr6, ok0, ok1, ok2, ok3, gl2_0, gl2_1, gl2_2, gl3_0, gl3_1, gl3_2, gm0, gm2, gm3, gm4, gm5, gm6, gm7, gm8, gm9, gm10, gm11, gm13, gm14, gm22, gm23, gm26, gm27, gm28, gm29, gm31, gm32, gm33, gm36, gm37, gm39, gm40, gm41, gm1, gm12, gm15, gm16, gm17, gm18, gm19, gm20, gm21, gm24, gm25, gm30, gm34, gm35, gm38, rk0, sk0, rk9, sk9, rk16, sk16, rk18, sk18, rk19, sk19, rm1, sm1, rm12, sm12, rm15, sm15, rm16, sm16, rm17, sm17, rm18, sm18, rm19, sm19, rm20, sm20, rm21, sm21, rm24, sm24, rm25, sm25, rm30, sm30, rm34, sm34, rm35, sm35, rm38, sm38, pk1, pk2, pk3, pk4, pk10, pk11, pk12, pk13, pk14, pk15, pk17, pkr5, pkr6, pm0, pm2, pm3, pm4, pm5, pm6, pm7, pm8, pm9, pm10, pm11, pm13, pz13_0, pz13_1, pm14, pz14_0, pz14_1, pm22, pm23, pm26, pm27, pm28, pm29, pm31, pm32, pm33, pm36, pm37, pm39, pm40, pm41, pl2_0, pl2_1, pl2_2, pl3_0, pl3_1, pl3_2, e4, e5]
    rw [if_neg (by omega)]
    (repeat' split) <;> first | rfl | omega
theorem k_turnsAbout (x : Nat) (F : Nat → Int) (P : Nat → Option Nat) (A : Nat → Int → Int) (f l : Nat → Int) (a : Nat → Int → Int) (b : fk_M) {h : Int} {ρ τ σ : Int → Int} (hK : Kq x P b h ρ τ σ) {p : Int} (hp0 : rg p) : KO x F P A f l a b (s_turnsAbout h ρ σ p) (if (h = 1 ∧ 0 ≤ p ∧ p < ρ 2) then 0 else 1) (f_X1_turnsAbout (some x) (ii p) (hp x F P A f l a b)) := by
  unfold f_X1_turnsAbout s_turnsAbout
  rw [ok0, Option.bind_some, k_isPair x F P A f l a b hp0 hK, Option.bind_some]
  by_cases h0 : (h = 1 ∧ 0 ≤ p ∧ p < ρ 2)
  rotate_left
  · rw [if_neg h0, if_neg h0, if_neg h0, if_pos (show ii 0 = 0 by decide)]
    simp (disch := first | omega | assumption) only [Option.bind_some, bn2_some, ii_lit, ii_neg, ii_add, ii_sub, ii_mul, ii_le, ii_lt, ii_eq, ii_ite, ii_or, ii_and, ii_bit, ii_rem, ii_div, b0_, b1_, b2_, b3_, true_and, and_true, u1_eq, u1_ne, u2_eq, u2_nk, u2_ni, uP_eq, uP_ne, gk1, gk2, gk3, gk4, gk10, gk11, gk12, gk13, gk14, gk15, gk17, gkr0, gkr7, gkr8, gkr9, gkr16, gkr18, gkr19, gkr5, gkr6, ok0, ok1, ok2, ok3, gl2_0, gl2_1, gl2_2, gl3_0, gl3_1, gl3_2, gm0, gm2, gm3, gm4, gm5, gm6, gm7, gm8, gm9, gm10, gm11, gm13, gm14, gm22, gm23, gm26, gm27, gm28, gm29, gm31, gm32, gm33, gm36, gm37, gm39, gm40, gm41, gm1, gm12, gm15, gm16, gm17, gm18, gm19, gm20, gm21, gm24, gm25, gm30, gm34, gm35, gm38, rk0, sk0, rk9, sk9, rk16, sk16, rk18, sk18, rk19, sk19, rm1, sm1, rm12, sm12, rm15, sm15, rm16, sm16, rm17, sm17, rm18, sm18, rm19, sm19, rm20, sm20, rm21, sm21, rm24, sm24, rm25, sm25, rm30, sm30, rm34, sm34, rm35, sm35, rm38, sm38, pk1, pk2, pk3, pk4, pk10, pk11, pk12, pk13, pk14, pk15, pk17, pkr5, pkr6, pm0, pm2, pm3, pm4, pm5, pm6, pm7, pm8, pm9, pm10, pm11, pm13, pz13_0, pz13_1, pm14, pz14_0, pz14_1, pm22, pm23, pm26, pm27, pm28, pm29, pm31, pm32, pm33, pm36, pm37, pm39, pm40, pm41, pl2_0, pl2_1, pl2_2, pl3_0, pl3_1, pl3_2, k_refused]
    exact KO.ref ..
  rw [if_pos h0, if_pos h0, if_pos h0, if_neg (show ¬ ii 1 = 0 by decide)]
  obtain ⟨rfl, hp1, hp2⟩ := h0
  obtain ⟨hh, -⟩ | ⟨-, hR, q, lw, hk, pa, sg, un, l5, l6, s1, s2, s3, hA⟩ := hK
  · omega
  have hw := hR.wd
  have hq := hR.pr hp1 hp2
  obtain ⟨A', e1, e2, e3⟩ := k_tOZ x F P A f l a b hR hA (n := 60) hp1 hp2 (by omega) (by omega)
  refine KO.mk F A' (ke.rfl' _) (e3 0 (by omega)) ?_
  simp (disch := first | omega | assumption) only [Option.bind_some, bn2_some, ii_lit, ii_neg, ii_add, ii_sub, ii_mul, ii_le, ii_lt, ii_eq, ii_ite, ii_or, ii_and, ii_bit, ii_rem, ii_div, b0_, b1_, b2_, b3_, true_and, and_true, u1_eq, u1_ne, u2_eq, u2_nk, u2_ni, uP_eq, uP_ne, gk1, gk2, gk3, gk4, gk10, gk11, gk12, gk13, gk14, gk15, gk17, gkr0, gkr7, gkr8, gkr9, gkr16, gkr18, gkr19, gkr5, gkr6, ok0, ok1, ok2, ok3, gl2_0, gl2_1, gl2_2, gl3_0, gl3_1, gl3_2, gm0, gm2, gm3, gm4, gm5, gm6, gm7, gm8, gm9, gm10, gm11, gm13, gm14, gm22, gm23, gm26, gm27, gm28, gm29, gm31, gm32, gm33, gm36, gm37, gm39, gm40, gm41, gm1, gm12, gm15, gm16, gm17, gm18, gm19, gm20, gm21, gm24, gm25, gm30, gm34, gm35, gm38, rk0, sk0, rk9, sk9, rk16, sk16, rk18, sk18, rk19, sk19, rm1, sm1, rm12, sm12, rm15, sm15, rm16, sm16, rm17, sm17, rm18, sm18, rm19, sm19, rm20, sm20, rm21, sm21, rm24, sm24, rm25, sm25, rm30, sm30, rm34, sm34, rm35, sm35, rm38, sm38, pk1, pk2, pk3, pk4, pk10, pk11, pk12, pk13, pk14, pk15, pk17, pkr5, pkr6, pm0, pm2, pm3, pm4, pm5, pm6, pm7, pm8, pm9, pm10, pm11, pm13, pz13_0, pz13_1, pm14, pz14_0, pz14_1, pm22, pm23, pm26, pm27, pm28, pm29, pm31, pm32, pm33, pm36, pm37, pm39, pm40, pm41, pl2_0, pl2_1, pl2_2, pl3_0, pl3_1, pl3_2, e1]
  have hL := loop_i0 (fun N u k => f_X1_turnsAbout_L25 (some x) (hp x F P A' f l a b) N (ii u) (ii (k + 1))) (fun u k => u + (if (ρ 0 < 2 * ts ρ σ p k.toNat ↔ ρ 0 < 2 * ts ρ σ p (k + 1).toNat) then 0 else 1)) (fun u => some (ii u, hp x (Fo F 0) P A' f l a b)) (lo := 0) (hi := 60) ?_ ?_ 60 fk_fuel 0 0 (by omega) (by omega) (by unfold fk_fuel; omega)
  · exact hL
  · intros
    try dsimp only
    rw [f_X1_turnsAbout_L25]
    simp (disch := first | omega | assumption) only [Option.bind_some, bn2_some, ii_lit, ii_neg, ii_add, ii_sub, ii_mul, ii_le, ii_lt, ii_eq, ii_ite, ii_or, ii_and, ii_bit, ii_rem, ii_div, b0_, b1_, b2_, b3_, true_and, and_true, u1_eq, u1_ne, u2_eq, u2_nk, u2_ni, uP_eq, uP_ne, gk1, gk2, gk3, gk4, gk10, gk11, gk12, gk13, gk14, gk15, gk17, gkr0, gkr7, gkr8, gkr9, gkr16, gkr18, gkr19, gkr5, gkr6, ok0, ok1, ok2, ok3, gl2_0, gl2_1, gl2_2, gl3_0, gl3_1, gl3_2, gm0, gm2, gm3, gm4, gm5, gm6, gm7, gm8, gm9, gm10, gm11, gm13, gm14, gm22, gm23, gm26, gm27, gm28, gm29, gm31, gm32, gm33, gm36, gm37, gm39, gm40, gm41, gm1, gm12, gm15, gm16, gm17, gm18, gm19, gm20, gm21, gm24, gm25, gm30, gm34, gm35, gm38, rk0, sk0, rk9, sk9, rk16, sk16, rk18, sk18, rk19, sk19, rm1, sm1, rm12, sm12, rm15, sm15, rm16, sm16, rm17, sm17, rm18, sm18, rm19, sm19, rm20, sm20, rm21, sm21, rm24, sm24, rm25, sm25, rm30, sm30, rm34, sm34, rm35, sm35, rm38, sm38, pk1, pk2, pk3, pk4, pk10, pk11, pk12, pk13, pk14, pk15, pk17, pkr5, pkr6, pm0, pm2, pm3, pm4, pm5, pm6, pm7, pm8, pm9, pm10, pm11, pm13, pz13_0, pz13_1, pm14, pz14_0, pz14_1, pm22, pm23, pm26, pm27, pm28, pm29, pm31, pm32, pm33, pm36, pm37, pm39, pm40, pm41, pl2_0, pl2_1, pl2_2, pl3_0, pl3_1, pl3_2, k_well]
    rw [if_pos (by omega)]
  · intro N u k k1 k2
    have e4 := e2 k (by omega) (by omega)
    have e6 := e2 (k + 1) (by omega) (by omega)
    have ht := ts_rg hR hp1 hp2 k.toNat
    have ht2 := ts_rg hR hp1 hp2 (k + 1).toNat
    have e5 := k_isMore x F P A' f l a b hR hA (v := ts ρ σ p k.toNat) (by omega) (by omega)
    have e7 := k_isMore x F P A' f l a b hR hA (v := ts ρ σ p (k + 1).toNat) (by omega) (by omega)
    have ez : k + 1 - 1 = k := by omega
    try dsimp only
    rw [f_X1_turnsAbout_L25]
    simp (disch := first | omega | assumption) only [Option.bind_some, bn2_some, ii_lit, ii_neg, ii_add, ii_sub, ii_mul, ii_le, ii_lt, ii_eq, ii_ite, ii_or, ii_and, ii_bit, ii_rem, ii_div, b0_, b1_, b2_, b3_, true_and, and_true, u1_eq, u1_ne, u2_eq, u2_nk, u2_ni, uP_eq, uP_ne, gk1, gk2, gk3, gk4, gk10, gk11, gk12, gk13, gk14, gk15, gk17, gkr0, gkr7, gkr8, gkr9, gkr16, gkr18, gkr19, gkr5, gkr6, ok0, ok1, ok2, ok3, gl2_0, gl2_1, gl2_2, gl3_0, gl3_1, gl3_2, gm0, gm2, gm3, gm4, gm5, gm6, gm7, gm8, gm9, gm10, gm11, gm13, gm14, gm22, gm23, gm26, gm27, gm28, gm29, gm31, gm32, gm33, gm36, gm37, gm39, gm40, gm41, gm1, gm12, gm15, gm16, gm17, gm18, gm19, gm20, gm21, gm24, gm25, gm30, gm34, gm35, gm38, rk0, sk0, rk9, sk9, rk16, sk16, rk18, sk18, rk19, sk19, rm1, sm1, rm12, sm12, rm15, sm15, rm16, sm16, rm17, sm17, rm18, sm18, rm19, sm19, rm20, sm20, rm21, sm21, rm24, sm24, rm25, sm25, rm30, sm30, rm34, sm34, rm35, sm35, rm38, sm38, pk1, pk2, pk3, pk4, pk10, pk11, pk12, pk13, pk14, pk15, pk17, pkr5, pkr6, pm0, pm2, pm3, pm4, pm5, pm6, pm7, pm8, pm9, pm10, pm11, pm13, pz13_0, pz13_1, pm14, pz14_0, pz14_1, pm22, pm23, pm26, pm27, pm28, pm29, pm31, pm32, pm33, pm36, pm37, pm39, pm40, pm41, pl2_0, pl2_1, pl2_2, pl3_0, pl3_1, pl3_2, e4, e5, e6, e7, ez]
    rw [if_neg (by omega)]
    refine congrArg (fun z => f_X1_turnsAbout_L25 (some x) (hp x F P A' f l a b) N (ii (u + z)) (ii (k + 1 + 1))) ?_
    (repeat' split) <;> first | rfl | omega
theorem ts_succ (ρ σ : Int → Int) (p k : Int) (hk : 0 ≤ k) : ts ρ σ p (k + 1).toNat = bh ρ p (ts ρ σ p k.toNat) (σ (5 + p)) (ρ (13 + p)) (σ 35 + k + 1) 0 := by
  have h : (k + 1).toNat = k.toNat + 1 := by omega
  have h2 : ((k.toNat : Nat) : Int) = k := Int.toNat_of_nonneg hk
  unfold ts
  rw [h]
  show bh ρ p _ _ _ (σ 35 + ((k.toNat : Nat) + 1)) 0 = _
  rw [h2, show σ 35 + (k + 1) = σ 35 + k + 1 by omega]
theorem k_alikeIn (x : Nat) (F : Nat → Int) (P : Nat → Option Nat) (A : Nat → Int → Int) (f l : Nat → Int) (a : Nat → Int → Int) (b : fk_M) {h : Int} {ρ τ σ : Int → Int} (hK : Kq x P b h ρ τ σ) {p r : Int} (hp0 : rg p) (hr0 : rg r) : KO x F P A f l a b (s_alikeIn h ρ σ p r) (if (h = 1 ∧ 0 ≤ p ∧ p < ρ 2) ∧ (h = 1 ∧ 0 ≤ r ∧ r < ρ 2) ∧ p ≠ r then 0 else 1) (f_X1_alikeIn (some x) (ii p) (ii r) (hp x F P A f l a b)) := by
  unfold f_X1_alikeIn s_alikeIn
  rw [ok0, Option.bind_some, k_areTwo x F P A f l a b hp0 hr0 hK, Option.bind_some]
  by_cases h0 : (h = 1 ∧ 0 ≤ p ∧ p < ρ 2) ∧ (h = 1 ∧ 0 ≤ r ∧ r < ρ 2) ∧ p ≠ r
  rotate_left
  · rw [if_neg h0, if_neg h0, if_neg h0, if_pos (show ii 0 = 0 by decide)]
    simp (disch := first | omega | assumption) only [Option.bind_some, bn2_some, ii_lit, ii_neg, ii_add, ii_sub, ii_mul, ii_le, ii_lt, ii_eq, ii_ite, ii_or, ii_and, ii_bit, ii_rem, ii_div, b0_, b1_, b2_, b3_, true_and, and_true, u1_eq, u1_ne, u2_eq, u2_nk, u2_ni, uP_eq, uP_ne, gk1, gk2, gk3, gk4, gk10, gk11, gk12, gk13, gk14, gk15, gk17, gkr0, gkr7, gkr8, gkr9, gkr16, gkr18, gkr19, gkr5, gkr6, ok0, ok1, ok2, ok3, gl2_0, gl2_1, gl2_2, gl3_0, gl3_1, gl3_2, gm0, gm2, gm3, gm4, gm5, gm6, gm7, gm8, gm9, gm10, gm11, gm13, gm14, gm22, gm23, gm26, gm27, gm28, gm29, gm31, gm32, gm33, gm36, gm37, gm39, gm40, gm41, gm1, gm12, gm15, gm16, gm17, gm18, gm19, gm20, gm21, gm24, gm25, gm30, gm34, gm35, gm38, rk0, sk0, rk9, sk9, rk16, sk16, rk18, sk18, rk19, sk19, rm1, sm1, rm12, sm12, rm15, sm15, rm16, sm16, rm17, sm17, rm18, sm18, rm19, sm19, rm20, sm20, rm21, sm21, rm24, sm24, rm25, sm25, rm30, sm30, rm34, sm34, rm35, sm35, rm38, sm38, pk1, pk2, pk3, pk4, pk10, pk11, pk12, pk13, pk14, pk15, pk17, pkr5, pkr6, pm0, pm2, pm3, pm4, pm5, pm6, pm7, pm8, pm9, pm10, pm11, pm13, pz13_0, pz13_1, pm14, pz14_0, pz14_1, pm22, pm23, pm26, pm27, pm28, pm29, pm31, pm32, pm33, pm36, pm37, pm39, pm40, pm41, pl2_0, pl2_1, pl2_2, pl3_0, pl3_1, pl3_2, k_refused]
    exact KO.ref ..
  rw [if_pos h0, if_pos h0, if_pos h0, if_neg (show ¬ ii 1 = 0 by decide)]
  obtain ⟨⟨rfl, hp1, hp2⟩, ⟨-, hr1, hr2⟩, hpr⟩ := h0
  obtain ⟨hh, -⟩ | ⟨-, hR, q, lw, hk, pa, sg, un, l5, l6, s1, s2, s3, hA⟩ := hK
  · omega
  have hw := hR.wd
  have hq := hR.pr hp1 hp2
  have hq2 := hR.pr hr1 hr2
  refine KO.mk F A (ke.rfl' _) rfl ?_
  have hA' := hA
  obtain ⟨KP5, KP6, K1, K2, K3, K4, K5, K6, K7, K8, K9, K10, K11, K12, K13, K14, K15, K16, K17, K18, K19, K20, K21, K22, K23, K24, K25, K26, K27, K28, K29, K30, K31⟩ := hA
  simp (disch := first | omega | assumption) only [Option.bind_some, bn2_some, ii_lit, ii_neg, ii_add, ii_sub, ii_mul, ii_le, ii_lt, ii_eq, ii_ite, ii_or, ii_and, ii_bit, ii_rem, ii_div, b0_, b1_, b2_, b3_, true_and, and_true, u1_eq, u1_ne, u2_eq, u2_nk, u2_ni, uP_eq, uP_ne, gk1, gk2, gk3, gk4, gk10, gk11, gk12, gk13, gk14, gk15, gk17, gkr0, gkr7, gkr8, gkr9, gkr16, gkr18, gkr19, gkr5, gkr6, ok0, ok1, ok2, ok3, gl2_0, gl2_1, gl2_2, gl3_0, gl3_1, gl3_2, gm0, gm2, gm3, gm4, gm5, gm6, gm7, gm8, gm9, gm10, gm11, gm13, gm14, gm22, gm23, gm26, gm27, gm28, gm29, gm31, gm32, gm33, gm36, gm37, gm39, gm40, gm41, gm1, gm12, gm15, gm16, gm17, gm18, gm19, gm20, gm21, gm24, gm25, gm30, gm34, gm35, gm38, rk0, sk0, rk9, sk9, rk16, sk16, rk18, sk18, rk19, sk19, rm1, sm1, rm12, sm12, rm15, sm15, rm16, sm16, rm17, sm17, rm18, sm18, rm19, sm19, rm20, sm20, rm21, sm21, rm24, sm24, rm25, sm25, rm30, sm30, rm34, sm34, rm35, sm35, rm38, sm38, pk1, pk2, pk3, pk4, pk10, pk11, pk12, pk13, pk14, pk15, pk17, pkr5, pkr6, pm0, pm2, pm3, pm4, pm5, pm6, pm7, pm8, pm9, pm10, pm11, pm13, pz13_0, pz13_1, pm14, pz14_0, pz14_1, pm22, pm23, pm26, pm27, pm28, pm29, pm31, pm32, pm33, pm36, pm37, pm39, pm40, pm41, pl2_0, pl2_1, pl2_2, pl3_0, pl3_1, pl3_2, KP6, K24, K28]
  have hL := loop_fd (fun N k => f_X1_alikeIn_L39 (some x) (ii p) (ii r) (hp x F P A f l a b) N (ii (ts ρ σ p k.toNat)) (ii (ts ρ σ r k.toNat)) (ii k)) (fun k => ts ρ σ p k.toNat = ts ρ σ r k.toNat) (fun u => some (ii u, hp x (Fo F 0) P A f l a b)) (-2) (lo := 0) (hi := 61) ?_ ?_ 61 fk_fuel 0 (by omega) (by omega) (by unfold fk_fuel; omega)
  · exact hL
  · intros
    try dsimp only
    rw [f_X1_alikeIn_L39]
    simp (disch := first | omega | assumption) only [Option.bind_some, bn2_some, ii_lit, ii_neg, ii_add, ii_sub, ii_mul, ii_le, ii_lt, ii_eq, ii_ite, ii_or, ii_and, ii_bit, ii_rem, ii_div, b0_, b1_, b2_, b3_, true_and, and_true, u1_eq, u1_ne, u2_eq, u2_nk, u2_ni, uP_eq, uP_ne, gk1, gk2, gk3, gk4, gk10, gk11, gk12, gk13, gk14, gk15, gk17, gkr0, gkr7, gkr8, gkr9, gkr16, gkr18, gkr19, gkr5, gkr6, ok0, ok1, ok2, ok3, gl2_0, gl2_1, gl2_2, gl3_0, gl3_1, gl3_2, gm0, gm2, gm3, gm4, gm5, gm6, gm7, gm8, gm9, gm10, gm11, gm13, gm14, gm22, gm23, gm26, gm27, gm28, gm29, gm31, gm32, gm33, gm36, gm37, gm39, gm40, gm41, gm1, gm12, gm15, gm16, gm17, gm18, gm19, gm20, gm21, gm24, gm25, gm30, gm34, gm35, gm38, rk0, sk0, rk9, sk9, rk16, sk16, rk18, sk18, rk19, sk19, rm1, sm1, rm12, sm12, rm15, sm15, rm16, sm16, rm17, sm17, rm18, sm18, rm19, sm19, rm20, sm20, rm21, sm21, rm24, sm24, rm25, sm25, rm30, sm30, rm34, sm34, rm35, sm35, rm38, sm38, pk1, pk2, pk3, pk4, pk10, pk11, pk12, pk13, pk14, pk15, pk17, pkr5, pkr6, pm0, pm2, pm3, pm4, pm5, pm6, pm7, pm8, pm9, pm10, pm11, pm13, pz13_0, pz13_1, pm14, pz14_0, pz14_1, pm22, pm23, pm26, pm27, pm28, pm29, pm31, pm32, pm33, pm36, pm37, pm39, pm40, pm41, pl2_0, pl2_1, pl2_2, pl3_0, pl3_1, pl3_2, k_well]
    rw [if_pos (by omega)]
  · intro N k k1 k2
    have ht := ts_rg hR hp1 hp2 k.toNat
    have ht2 := ts_rg hR hr1 hr2 k.toNat
    have e1 := k_then x F P A f l a b hR hA' (p := p) (v := ts ρ σ p k.toNat) (s := σ (5 + p)) (e := ρ (13 + p)) (g := σ 35 + k + 1) (d := 0) hp1 hp2 (by omega) (by omega) (by omega) (by omega) (by omega) (by omega) (by omega) (by omega) (by omega) (by omega)
    have e2 := k_then x F P A f l a b hR hA' (p := r) (v := ts ρ σ r k.toNat) (s := σ (5 + r)) (e := ρ (13 + r)) (g := σ 35 + k + 1) (d := 0) hr1 hr2 (by omega) (by omega) (by omega) (by omega) (by omega) (by omega) (by omega) (by omega) (by omega) (by omega)
    rw [ts_succ ρ σ p k k1, ts_succ ρ σ r k k1]
    try dsimp only
    rw [f_X1_alikeIn_L39]
    simp (disch := first | omega | assumption) only [Option.bind_some, bn2_some, ii_lit, ii_neg, ii_add, ii_sub, ii_mul, ii_le, ii_lt, ii_eq, ii_ite, ii_or, ii_and, ii_bit, ii_rem, ii_div, b0_, b1_, b2_, b3_, true_and, and_true, u1_eq, u1_ne, u2_eq, u2_nk, u2_ni, uP_eq, uP_ne, gk1, gk2, gk3, gk4, gk10, gk11, gk12, gk13, gk14, gk15, gk17, gkr0, gkr7, gkr8, gkr9, gkr16, gkr18, gkr19, gkr5, gkr6, ok0, ok1, ok2, ok3, gl2_0, gl2_1, gl2_2, gl3_0, gl3_1, gl3_2, gm0, gm2, gm3, gm4, gm5, gm6, gm7, gm8, gm9, gm10, gm11, gm13, gm14, gm22, gm23, gm26, gm27, gm28, gm29, gm31, gm32, gm33, gm36, gm37, gm39, gm40, gm41, gm1, gm12, gm15, gm16, gm17, gm18, gm19, gm20, gm21, gm24, gm25, gm30, gm34, gm35, gm38, rk0, sk0, rk9, sk9, rk16, sk16, rk18, sk18, rk19, sk19, rm1, sm1, rm12, sm12, rm15, sm15, rm16, sm16, rm17, sm17, rm18, sm18, rm19, sm19, rm20, sm20, rm21, sm21, rm24, sm24, rm25, sm25, rm30, sm30, rm34, sm34, rm35, sm35, rm38, sm38, pk1, pk2, pk3, pk4, pk10, pk11, pk12, pk13, pk14, pk15, pk17, pkr5, pkr6, pm0, pm2, pm3, pm4, pm5, pm6, pm7, pm8, pm9, pm10, pm11, pm13, pz13_0, pz13_1, pm14, pz14_0, pz14_1, pm22, pm23, pm26, pm27, pm28, pm29, pm31, pm32, pm33, pm36, pm37, pm39, pm40, pm41, pl2_0, pl2_1, pl2_2, pl3_0, pl3_1, pl3_2, KP6, K25, K29, K2, K3, K27, e1, e2, k_well]
    rw [if_neg (by omega)]
theorem k_overtakes (x : Nat) (F : Nat → Int) (P : Nat → Option Nat) (A : Nat → Int → Int) (f l : Nat → Int) (a : Nat → Int → Int) (b : fk_M) {h : Int} {ρ τ σ : Int → Int} (hK : Kq x P b h ρ τ σ) {p r : Int} (hp0 : rg p) (hr0 : rg r) : KO x F P A f l a b (s_overtakes h ρ σ p r) (if (h = 1 ∧ 0 ≤ p ∧ p < ρ 2) ∧ (h = 1 ∧ 0 ≤ r ∧ r < ρ 2) ∧ p ≠ r then 0 else 1) (f_X1_overtakes (some x) (ii p) (ii r) (hp x F P A f l a b)) := by
  unfold f_X1_overtakes s_overtakes
  rw [ok0, Option.bind_some, k_areTwo x F P A f l a b hp0 hr0 hK, Option.bind_some]
  by_cases h0 : (h = 1 ∧ 0 ≤ p ∧ p < ρ 2) ∧ (h = 1 ∧ 0 ≤ r ∧ r < ρ 2) ∧ p ≠ r
  rotate_left
  · rw [if_neg h0, if_neg h0, if_neg h0, if_pos (show ii 0 = 0 by decide)]
    simp (disch := first | omega | assumption) only [Option.bind_some, bn2_some, ii_lit, ii_neg, ii_add, ii_sub, ii_mul, ii_le, ii_lt, ii_eq, ii_ite, ii_or, ii_and, ii_bit, ii_rem, ii_div, b0_, b1_, b2_, b3_, true_and, and_true, u1_eq, u1_ne, u2_eq, u2_nk, u2_ni, uP_eq, uP_ne, gk1, gk2, gk3, gk4, gk10, gk11, gk12, gk13, gk14, gk15, gk17, gkr0, gkr7, gkr8, gkr9, gkr16, gkr18, gkr19, gkr5, gkr6, ok0, ok1, ok2, ok3, gl2_0, gl2_1, gl2_2, gl3_0, gl3_1, gl3_2, gm0, gm2, gm3, gm4, gm5, gm6, gm7, gm8, gm9, gm10, gm11, gm13, gm14, gm22, gm23, gm26, gm27, gm28, gm29, gm31, gm32, gm33, gm36, gm37, gm39, gm40, gm41, gm1, gm12, gm15, gm16, gm17, gm18, gm19, gm20, gm21, gm24, gm25, gm30, gm34, gm35, gm38, rk0, sk0, rk9, sk9, rk16, sk16, rk18, sk18, rk19, sk19, rm1, sm1, rm12, sm12, rm15, sm15, rm16, sm16, rm17, sm17, rm18, sm18, rm19, sm19, rm20, sm20, rm21, sm21, rm24, sm24, rm25, sm25, rm30, sm30, rm34, sm34, rm35, sm35, rm38, sm38, pk1, pk2, pk3, pk4, pk10, pk11, pk12, pk13, pk14, pk15, pk17, pkr5, pkr6, pm0, pm2, pm3, pm4, pm5, pm6, pm7, pm8, pm9, pm10, pm11, pm13, pz13_0, pz13_1, pm14, pz14_0, pz14_1, pm22, pm23, pm26, pm27, pm28, pm29, pm31, pm32, pm33, pm36, pm37, pm39, pm40, pm41, pl2_0, pl2_1, pl2_2, pl3_0, pl3_1, pl3_2, k_refused]
    exact KO.ref ..
  rw [if_pos h0, if_pos h0, if_pos h0, if_neg (show ¬ ii 1 = 0 by decide)]
  obtain ⟨⟨rfl, hp1, hp2⟩, ⟨-, hr1, hr2⟩, hpr⟩ := h0
  obtain ⟨hh, -⟩ | ⟨-, hR, q, lw, hk, pa, sg, un, l5, l6, s1, s2, s3, hA⟩ := hK
  · omega
  have hw := hR.wd
  have hq := hR.pr hp1 hp2
  have hq2 := hR.pr hr1 hr2
  refine KO.mk F A (ke.rfl' _) rfl ?_
  have hA' := hA
  obtain ⟨KP5, KP6, K1, K2, K3, K4, K5, K6, K7, K8, K9, K10, K11, K12, K13, K14, K15, K16, K17, K18, K19, K20, K21, K22, K23, K24, K25, K26, K27, K28, K29, K30, K31⟩ := hA
  simp (disch := first | omega | assumption) only [Option.bind_some, bn2_some, ii_lit, ii_neg, ii_add, ii_sub, ii_mul, ii_le, ii_lt, ii_eq, ii_ite, ii_or, ii_and, ii_bit, ii_rem, ii_div, b0_, b1_, b2_, b3_, true_and, and_true, u1_eq, u1_ne, u2_eq, u2_nk, u2_ni, uP_eq, uP_ne, gk1, gk2, gk3, gk4, gk10, gk11, gk12, gk13, gk14, gk15, gk17, gkr0, gkr7, gkr8, gkr9, gkr16, gkr18, gkr19, gkr5, gkr6, ok0, ok1, ok2, ok3, gl2_0, gl2_1, gl2_2, gl3_0, gl3_1, gl3_2, gm0, gm2, gm3, gm4, gm5, gm6, gm7, gm8, gm9, gm10, gm11, gm13, gm14, gm22, gm23, gm26, gm27, gm28, gm29, gm31, gm32, gm33, gm36, gm37, gm39, gm40, gm41, gm1, gm12, gm15, gm16, gm17, gm18, gm19, gm20, gm21, gm24, gm25, gm30, gm34, gm35, gm38, rk0, sk0, rk9, sk9, rk16, sk16, rk18, sk18, rk19, sk19, rm1, sm1, rm12, sm12, rm15, sm15, rm16, sm16, rm17, sm17, rm18, sm18, rm19, sm19, rm20, sm20, rm21, sm21, rm24, sm24, rm25, sm25, rm30, sm30, rm34, sm34, rm35, sm35, rm38, sm38, pk1, pk2, pk3, pk4, pk10, pk11, pk12, pk13, pk14, pk15, pk17, pkr5, pkr6, pm0, pm2, pm3, pm4, pm5, pm6, pm7, pm8, pm9, pm10, pm11, pm13, pz13_0, pz13_1, pm14, pz14_0, pz14_1, pm22, pm23, pm26, pm27, pm28, pm29, pm31, pm32, pm33, pm36, pm37, pm39, pm40, pm41, pl2_0, pl2_1, pl2_2, pl3_0, pl3_1, pl3_2, KP6, K24, K28]
  have hL := loop_fd (fun N k => f_X1_overtakes_L39 (some x) (ii p) (ii r) (hp x F P A f l a b) N (ii (ts ρ σ p k.toNat)) (ii (ts ρ σ r k.toNat)) (ii k)) (fun k => ts ρ σ r k.toNat < ts ρ σ p k.toNat) (fun u => some (ii u, hp x (Fo F 0) P A f l a b)) (-2) (lo := 0) (hi := 61) ?_ ?_ 61 fk_fuel 0 (by omega) (by omega) (by unfold fk_fuel; omega)
  · exact hL
  · intros
    try dsimp only
    rw [f_X1_overtakes_L39]
    simp (disch := first | omega | assumption) only [Option.bind_some, bn2_some, ii_lit, ii_neg, ii_add, ii_sub, ii_mul, ii_le, ii_lt, ii_eq, ii_ite, ii_or, ii_and, ii_bit, ii_rem, ii_div, b0_, b1_, b2_, b3_, true_and, and_true, u1_eq, u1_ne, u2_eq, u2_nk, u2_ni, uP_eq, uP_ne, gk1, gk2, gk3, gk4, gk10, gk11, gk12, gk13, gk14, gk15, gk17, gkr0, gkr7, gkr8, gkr9, gkr16, gkr18, gkr19, gkr5, gkr6, ok0, ok1, ok2, ok3, gl2_0, gl2_1, gl2_2, gl3_0, gl3_1, gl3_2, gm0, gm2, gm3, gm4, gm5, gm6, gm7, gm8, gm9, gm10, gm11, gm13, gm14, gm22, gm23, gm26, gm27, gm28, gm29, gm31, gm32, gm33, gm36, gm37, gm39, gm40, gm41, gm1, gm12, gm15, gm16, gm17, gm18, gm19, gm20, gm21, gm24, gm25, gm30, gm34, gm35, gm38, rk0, sk0, rk9, sk9, rk16, sk16, rk18, sk18, rk19, sk19, rm1, sm1, rm12, sm12, rm15, sm15, rm16, sm16, rm17, sm17, rm18, sm18, rm19, sm19, rm20, sm20, rm21, sm21, rm24, sm24, rm25, sm25, rm30, sm30, rm34, sm34, rm35, sm35, rm38, sm38, pk1, pk2, pk3, pk4, pk10, pk11, pk12, pk13, pk14, pk15, pk17, pkr5, pkr6, pm0, pm2, pm3, pm4, pm5, pm6, pm7, pm8, pm9, pm10, pm11, pm13, pz13_0, pz13_1, pm14, pz14_0, pz14_1, pm22, pm23, pm26, pm27, pm28, pm29, pm31, pm32, pm33, pm36, pm37, pm39, pm40, pm41, pl2_0, pl2_1, pl2_2, pl3_0, pl3_1, pl3_2, k_well]
    rw [if_pos (by omega)]
  · intro N k k1 k2
    have ht := ts_rg hR hp1 hp2 k.toNat
    have ht2 := ts_rg hR hr1 hr2 k.toNat
    have e1 := k_then x F P A f l a b hR hA' (p := p) (v := ts ρ σ p k.toNat) (s := σ (5 + p)) (e := ρ (13 + p)) (g := σ 35 + k + 1) (d := 0) hp1 hp2 (by omega) (by omega) (by omega) (by omega) (by omega) (by omega) (by omega) (by omega) (by omega) (by omega)
    have e2 := k_then x F P A f l a b hR hA' (p := r) (v := ts ρ σ r k.toNat) (s := σ (5 + r)) (e := ρ (13 + r)) (g := σ 35 + k + 1) (d := 0) hr1 hr2 (by omega) (by omega) (by omega) (by omega) (by omega) (by omega) (by omega) (by omega) (by omega) (by omega)
    rw [ts_succ ρ σ p k k1, ts_succ ρ σ r k k1]
    try dsimp only
    rw [f_X1_overtakes_L39]
    simp (disch := first | omega | assumption) only [Option.bind_some, bn2_some, ii_lit, ii_neg, ii_add, ii_sub, ii_mul, ii_le, ii_lt, ii_eq, ii_ite, ii_or, ii_and, ii_bit, ii_rem, ii_div, b0_, b1_, b2_, b3_, true_and, and_true, u1_eq, u1_ne, u2_eq, u2_nk, u2_ni, uP_eq, uP_ne, gk1, gk2, gk3, gk4, gk10, gk11, gk12, gk13, gk14, gk15, gk17, gkr0, gkr7, gkr8, gkr9, gkr16, gkr18, gkr19, gkr5, gkr6, ok0, ok1, ok2, ok3, gl2_0, gl2_1, gl2_2, gl3_0, gl3_1, gl3_2, gm0, gm2, gm3, gm4, gm5, gm6, gm7, gm8, gm9, gm10, gm11, gm13, gm14, gm22, gm23, gm26, gm27, gm28, gm29, gm31, gm32, gm33, gm36, gm37, gm39, gm40, gm41, gm1, gm12, gm15, gm16, gm17, gm18, gm19, gm20, gm21, gm24, gm25, gm30, gm34, gm35, gm38, rk0, sk0, rk9, sk9, rk16, sk16, rk18, sk18, rk19, sk19, rm1, sm1, rm12, sm12, rm15, sm15, rm16, sm16, rm17, sm17, rm18, sm18, rm19, sm19, rm20, sm20, rm21, sm21, rm24, sm24, rm25, sm25, rm30, sm30, rm34, sm34, rm35, sm35, rm38, sm38, pk1, pk2, pk3, pk4, pk10, pk11, pk12, pk13, pk14, pk15, pk17, pkr5, pkr6, pm0, pm2, pm3, pm4, pm5, pm6, pm7, pm8, pm9, pm10, pm11, pm13, pz13_0, pz13_1, pm14, pz14_0, pz14_1, pm22, pm23, pm26, pm27, pm28, pm29, pm31, pm32, pm33, pm36, pm37, pm39, pm40, pm41, pl2_0, pl2_1, pl2_2, pl3_0, pl3_1, pl3_2, KP6, K25, K29, K2, K3, K27, e1, e2, k_well]
    rw [if_neg (by omega)]
    (repeat' split) <;> first | rfl | omega
/-- the first best: by the best so far, or by its value kept beside -/
def bst2 (v : Int → Int) (u : Int × Int) (k : Int) : Int × Int := if u.2 < v k then (k, v k) else u
theorem bst2_bst (v : Int → Int) : ∀ (d : Nat) (k u : Int), itr (bst2 v) d k (u, v u) = (itr (bst v) d k u, v (itr (bst v) d k u)) := by
  intro d
  induction d with
  | zero => intro k u; rfl
  | succ d ih =>
    intro k u
    show itr (bst2 v) d (k + 1) (bst2 v (u, v u) k) = (itr (bst v) d (k + 1) (bst v u k), v (itr (bst v) d (k + 1) (bst v u k)))
    have : bst2 v (u, v u) k = (bst v u k, v (bst v u k)) := by
      unfold bst2 bst
      by_cases h : v u < v k
      · rw [if_pos h, if_neg (by omega)]
      · rw [if_neg h, if_pos (by omega)]
    rw [this]
    exact ih (k + 1) _
theorem k_saidIn (x : Nat) (F : Nat → Int) (P : Nat → Option Nat) (A : Nat → Int → Int) (f l : Nat → Int) (a : Nat → Int → Int) (b : fk_M) {q lw hk : Int → Nat} {pa sg un l5 l6 s1 s2 s3 : Nat} {ρ τ σ : Int → Int} (hR : Rg ρ τ σ) (hA : Api x P b ρ τ σ q lw hk pa sg un l5 l6 s1 s2 s3) {p n : Int} (hp0 : 0 ≤ p) (hp1 : p < ρ 2) (hn0 : 0 ≤ n) (hn : n ≤ 2700) : ∃ A', f_X1_saidIn (some x) (ii p) (ii n) (hp x F P A f l a b) = some (ii (ts ρ σ p n.toNat), hp x F P A' f l a b) ∧ (∀ i, i ≠ 9 → A' i = A i) := by
  obtain ⟨A', e1, e2, e3⟩ := k_tOZ x F P A f l a b hR hA hp0 hp1 hn0 hn
  have e4 := e2 n hn0 (Int.le_refl n)
  refine ⟨A', ?_, e3⟩
  unfold f_X1_saidIn
  simp (disch := first | omega | assumption) only [Option.bind_some, bn2_some, ii_lit, ii_neg, ii_add, ii_sub, ii_mul, ii_le, ii_lt, ii_eq, ii_ite, ii_or, ii_and, ii_bit, ii_rem, ii_div, b0_, b1_, b2_, b3_, true_and, and_true, u1_eq, u1_ne, u2_eq, u2_nk, u2_ni, uP_eq, uP_ne, gk1, gk2, gk3, gk4, gk10, gk11, gk12, gk13, gk14, gk15, gk17, gkr0, gkr7, gkr8, gkr9, gkr16, gkr18, gkr19, gkr5, gkr6, ok0, ok1, ok2, ok3, gl2_0, gl2_1, gl2_2, gl3_0, gl3_1, gl3_2, gm0, gm2, gm3, gm4, gm5, gm6, gm7, gm8, gm9, gm10, gm11, gm13, gm14, gm22, gm23, gm26, gm27, gm28, gm29, gm31, gm32, gm33, gm36, gm37, gm39, gm40, gm41, gm1, gm12, gm15, gm16, gm17, gm18, gm19, gm20, gm21, gm24, gm25, gm30, gm34, gm35, gm38, rk0, sk0, rk9, sk9, rk16, sk16, rk18, sk18, rk19, sk19, rm1, sm1, rm12, sm12, rm15, sm15, rm16, sm16, rm17, sm17, rm18, sm18, rm19, sm19, rm20, sm20, rm21, sm21, rm24, sm24, rm25, sm25, rm30, sm30, rm34, sm34, rm35, sm35, rm38, sm38, pk1, pk2, pk3, pk4, pk10, pk11, pk12, pk13, pk14, pk15, pk17, pkr5, pkr6, pm0, pm2, pm3, pm4, pm5, pm6, pm7, pm8, pm9, pm10, pm11, pm13, pz13_0, pz13_1, pm14, pz14_0, pz14_1, pm22, pm23, pm26, pm27, pm28, pm29, pm31, pm32, pm33, pm36, pm37, pm39, pm40, pm41, pl2_0, pl2_1, pl2_2, pl3_0, pl3_1, pl3_2, e1, e4]
theorem k_loudest (x : Nat) (F : Nat → Int) (P : Nat → Option Nat) (A : Nat → Int → Int) (f l : Nat → Int) (a : Nat → Int → Int) (b : fk_M) {h : Int} {ρ τ σ : Int → Int} (hK : Kq x P b h ρ τ σ) {n : Int} (hn : rg n) : KO x F P A f l a b (s_loudest h ρ σ n) (wy (h = 1) (0 ≤ n ∧ n ≤ 60)) (f_X1_loudest (some x) (ii n) (hp x F P A f l a b)) := by
  unfold f_X1_loudest s_loudest
  rw [gkr5, Option.bind_some, ok0, Option.bind_some, k_has hK, k_whyAhead x F P A f l a b (by have := k_h01 hK; omega) hn, Option.bind_some]
  have hy := wy_rg (h = 1) (0 ≤ n ∧ n ≤ 60)
  by_cases h0 : wy (h = 1) (0 ≤ n ∧ n ≤ 60) = 0
  rotate_left
  · rw [if_neg h0]
    simp (disch := first | omega | assumption) only [Option.bind_some, bn2_some, ii_lit, ii_neg, ii_add, ii_sub, ii_mul, ii_le, ii_lt, ii_eq, ii_ite, ii_or, ii_and, ii_bit, ii_rem, ii_div, b0_, b1_, b2_, b3_, true_and, and_true, u1_eq, u1_ne, u2_eq, u2_nk, u2_ni, uP_eq, uP_ne, gk1, gk2, gk3, gk4, gk10, gk11, gk12, gk13, gk14, gk15, gk17, gkr0, gkr7, gkr8, gkr9, gkr16, gkr18, gkr19, gkr5, gkr6, ok0, ok1, ok2, ok3, gl2_0, gl2_1, gl2_2, gl3_0, gl3_1, gl3_2, gm0, gm2, gm3, gm4, gm5, gm6, gm7, gm8, gm9, gm10, gm11, gm13, gm14, gm22, gm23, gm26, gm27, gm28, gm29, gm31, gm32, gm33, gm36, gm37, gm39, gm40, gm41, gm1, gm12, gm15, gm16, gm17, gm18, gm19, gm20, gm21, gm24, gm25, gm30, gm34, gm35, gm38, rk0, sk0, rk9, sk9, rk16, sk16, rk18, sk18, rk19, sk19, rm1, sm1, rm12, sm12, rm15, sm15, rm16, sm16, rm17, sm17, rm18, sm18, rm19, sm19, rm20, sm20, rm21, sm21, rm24, sm24, rm25, sm25, rm30, sm30, rm34, sm34, rm35, sm35, rm38, sm38, pk1, pk2, pk3, pk4, pk10, pk11, pk12, pk13, pk14, pk15, pk17, pkr5, pkr6, pm0, pm2, pm3, pm4, pm5, pm6, pm7, pm8, pm9, pm10, pm11, pm13, pz13_0, pz13_1, pm14, pz14_0, pz14_1, pm22, pm23, pm26, pm27, pm28, pm29, pm31, pm32, pm33, pm36, pm37, pm39, pm40, pm41, pl2_0, pl2_1, pl2_2, pl3_0, pl3_1, pl3_2, k_refused]
    rw [if_neg (by omega)]
    exact KO.ref ..
  obtain ⟨rfl, hn0, hn1⟩ := wy_0.mp h0
  rw [h0, if_pos (show (0 : Int) = 0 from rfl), if_pos (show ii 0 ≤ 0 by decide)]
  obtain ⟨hh, -⟩ | ⟨-, hR, q, lw, hk, pa, sg, un, l5, l6, s1, s2, s3, hA⟩ := hK
  · omega
  have hw := hR.wd
  clear h0 hy
  have hL := loop_ex (fun N (u : Int × Int) k (y : Nat → Int → Int) => f_X1_loudest_L36 (some x) (ii n) N (ii u.1) (ii u.2) (ii k) (hp x F P y f l a b)) (bst2 (fun p => ts ρ σ p n.toNat)) (fun u y => some (ii u.1, hp x (Fo F 0) P y f l a b)) (fun u k y => (-1 ≤ u.2 ∧ u.2 ≤ 1000) ∧ y 0 = A 0) (lo := 0) (hi := ρ 2) ?_ ?_ (ρ 2).toNat fk_fuel (0, -1) 0 A (by omega) (by omega) (by unfold fk_fuel; omega) ⟨by decide, rfl⟩
  · obtain ⟨A', e1, e2⟩ := hL
    refine KO.mk F A' (ke.rfl' _) e2.2 ?_
    have h1 : (ρ 2).toNat = (ρ 2 - 1).toNat + 1 := by omega
    have h2 : bst2 (fun p => ts ρ σ p n.toNat) (0, -1) 0 = (0, ts ρ σ 0 n.toNat) := by
      have := ts_rg hR (show (0 : Int) ≤ 0 by omega) (by omega) n.toNat
      unfold bst2
      rw [if_pos (show (-1 : Int) < ts ρ σ 0 n.toNat by omega)]
    have h3 : itr (bst2 (fun p => ts ρ σ p n.toNat)) (ρ 2).toNat 0 (0, -1) = (itr (bst (fun p => ts ρ σ p n.toNat)) (ρ 2 - 1).toNat 1 0, ts ρ σ (itr (bst (fun p => ts ρ σ p n.toNat)) (ρ 2 - 1).toNat 1 0) n.toNat) := by
      rw [h1]
      show itr (bst2 (fun p => ts ρ σ p n.toNat)) (ρ 2 - 1).toNat (0 + 1) (bst2 (fun p => ts ρ σ p n.toNat) (0, -1) 0) = _
      rw [h2]
      exact bst2_bst (fun p => ts ρ σ p n.toNat) _ _ _
    rw [h3] at e1
    exact e1
  · intro N u y hu
    try dsimp only
    rw [f_X1_loudest_L36]
    simp (disch := first | omega | assumption) only [Option.bind_some, bn2_some, ii_lit, ii_neg, ii_add, ii_sub, ii_mul, ii_le, ii_lt, ii_eq, ii_ite, ii_or, ii_and, ii_bit, ii_rem, ii_div, b0_, b1_, b2_, b3_, true_and, and_true, u1_eq, u1_ne, u2_eq, u2_nk, u2_ni, uP_eq, uP_ne, gk1, gk2, gk3, gk4, gk10, gk11, gk12, gk13, gk14, gk15, gk17, gkr0, gkr7, gkr8, gkr9, gkr16, gkr18, gkr19, gkr5, gkr6, ok0, ok1, ok2, ok3, gl2_0, gl2_1, gl2_2, gl3_0, gl3_1, gl3_2, gm0, gm2, gm3, gm4, gm5, gm6, gm7, gm8, gm9, gm10, gm11, gm13, gm14, gm22, gm23, gm26, gm27, gm28, gm29, gm31, gm32, gm33, gm36, gm37, gm39, gm40, gm41, gm1, gm12, gm15, gm16, gm17, gm18, gm19, gm20, gm21, gm24, gm25, gm30, gm34, gm35, gm38, rk0, sk0, rk9, sk9, rk16, sk16, rk18, sk18, rk19, sk19, rm1, sm1, rm12, sm12, rm15, sm15, rm16, sm16, rm17, sm17, rm18, sm18, rm19, sm19, rm20, sm20, rm21, sm21, rm24, sm24, rm25, sm25, rm30, sm30, rm34, sm34, rm35, sm35, rm38, sm38, pk1, pk2, pk3, pk4, pk10, pk11, pk12, pk13, pk14, pk15, pk17, pkr5, pkr6, pm0, pm2, pm3, pm4, pm5, pm6, pm7, pm8, pm9, pm10, pm11, pm13, pz13_0, pz13_1, pm14, pz14_0, pz14_1, pm22, pm23, pm26, pm27, pm28, pm29, pm31, pm32, pm33, pm36, pm37, pm39, pm40, pm41, pl2_0, pl2_1, pl2_2, pl3_0, pl3_1, pl3_2, hA.2.2.1, k_well]
    rw [if_pos (by omega)]
  · intro N u k y k1 k2 hu
    obtain ⟨A', e1, e2, e3⟩ := k_tOZ x F P y f l a b hR hA (p := k) (n := n) k1 k2 hn0 (by omega)
    have e4 := e2 n hn0 (Int.le_refl n)
    have ht := ts_rg hR k1 k2 n.toNat
    refine ⟨A', ⟨?_, (e3 0 (by omega)).trans hu.2⟩, ?_⟩
    · unfold bst2
      split
      · show (-1 : Int) ≤ ts ρ σ k n.toNat ∧ ts ρ σ k n.toNat ≤ 1000
        omega
      · exact hu.1
    obtain ⟨⟨hu1, hu2⟩, hu3⟩ := hu
    try dsimp only
    rw [f_X1_loudest_L36]
    unfold f_X1_loudest_J77
    simp (disch := first | omega | assumption) only [Option.bind_some, bn2_some, ii_lit, ii_neg, ii_add, ii_sub, ii_mul, ii_le, ii_lt, ii_eq, ii_ite, ii_or, ii_and, ii_bit, ii_rem, ii_div, b0_, b1_, b2_, b3_, true_and, and_true, u1_eq, u1_ne, u2_eq, u2_nk, u2_ni, uP_eq, uP_ne, gk1, gk2, gk3, gk4, gk10, gk11, gk12, gk13, gk14, gk15, gk17, gkr0, gkr7, gkr8, gkr9, gkr16, gkr18, gkr19, gkr5, gkr6, ok0, ok1, ok2, ok3, gl2_0, gl2_1, gl2_2, gl3_0, gl3_1, gl3_2, gm0, gm2, gm3, gm4, gm5, gm6, gm7, gm8, gm9, gm10, gm11, gm13, gm14, gm22, gm23, gm26, gm27, gm28, gm29, gm31, gm32, gm33, gm36, gm37, gm39, gm40, gm41, gm1, gm12, gm15, gm16, gm17, gm18, gm19, gm20, gm21, gm24, gm25, gm30, gm34, gm35, gm38, rk0, sk0, rk9, sk9, rk16, sk16, rk18, sk18, rk19, sk19, rm1, sm1, rm12, sm12, rm15, sm15, rm16, sm16, rm17, sm17, rm18, sm18, rm19, sm19, rm20, sm20, rm21, sm21, rm24, sm24, rm25, sm25, rm30, sm30, rm34, sm34, rm35, sm35, rm38, sm38, pk1, pk2, pk3, pk4, pk10, pk11, pk12, pk13, pk14, pk15, pk17, pkr5, pkr6, pm0, pm2, pm3, pm4, pm5, pm6, pm7, pm8, pm9, pm10, pm11, pm13, pz13_0, pz13_1, pm14, pz14_0, pz14_1, pm22, pm23, pm26, pm27, pm28, pm29, pm31, pm32, pm33, pm36, pm37, pm39, pm40, pm41, pl2_0, pl2_1, pl2_2, pl3_0, pl3_1, pl3_2, hA.2.2.1, e1, e4]
    rw [if_neg (by omega)]
    unfold bst2
    split <;> rfl
theorem k_sumAll (x : Nat) (F : Nat → Int) (P : Nat → Option Nat) (A : Nat → Int → Int) (f l : Nat → Int) (a : Nat → Int → Int) (b : fk_M) {h : Int} {ρ τ σ : Int → Int} (hK : Kq x P b h ρ τ σ) {n : Int} (hn : rg n) : KO x F P A f l a b (s_sumAll h ρ σ n) (wy (h = 1) (0 ≤ n ∧ n ≤ 60)) (f_X1_sumAll (some x) (ii n) (hp x F P A f l a b)) := by
  unfold f_X1_sumAll s_sumAll
  rw [gkr5, Option.bind_some, ok0, Option.bind_some, k_has hK, k_whyAhead x F P A f l a b (by have := k_h01 hK; omega) hn, Option.bind_some]
  have hy := wy_rg (h = 1) (0 ≤ n ∧ n ≤ 60)
  by_cases h0 : wy (h = 1) (0 ≤ n ∧ n ≤ 60) = 0
  rotate_left
  · rw [if_neg h0]
    simp (disch := first | omega | assumption) only [Option.bind_some, bn2_some, ii_lit, ii_neg, ii_add, ii_sub, ii_mul, ii_le, ii_lt, ii_eq, ii_ite, ii_or, ii_and, ii_bit, ii_rem, ii_div, b0_, b1_, b2_, b3_, true_and, and_true, u1_eq, u1_ne, u2_eq, u2_nk, u2_ni, uP_eq, uP_ne, gk1, gk2, gk3, gk4, gk10, gk11, gk12, gk13, gk14, gk15, gk17, gkr0, gkr7, gkr8, gkr9, gkr16, gkr18, gkr19, gkr5, gkr6, ok0, ok1, ok2, ok3, gl2_0, gl2_1, gl2_2, gl3_0, gl3_1, gl3_2, gm0, gm2, gm3, gm4, gm5, gm6, gm7, gm8, gm9, gm10, gm11, gm13, gm14, gm22, gm23, gm26, gm27, gm28, gm29, gm31, gm32, gm33, gm36, gm37, gm39, gm40, gm41, gm1, gm12, gm15, gm16, gm17, gm18, gm19, gm20, gm21, gm24, gm25, gm30, gm34, gm35, gm38, rk0, sk0, rk9, sk9, rk16, sk16, rk18, sk18, rk19, sk19, rm1, sm1, rm12, sm12, rm15, sm15, rm16, sm16, rm17, sm17, rm18, sm18, rm19, sm19, rm20, sm20, rm21, sm21, rm24, sm24, rm25, sm25, rm30, sm30, rm34, sm34, rm35, sm35, rm38, sm38, pk1, pk2, pk3, pk4, pk10, pk11, pk12, pk13, pk14, pk15, pk17, pkr5, pkr6, pm0, pm2, pm3, pm4, pm5, pm6, pm7, pm8, pm9, pm10, pm11, pm13, pz13_0, pz13_1, pm14, pz14_0, pz14_1, pm22, pm23, pm26, pm27, pm28, pm29, pm31, pm32, pm33, pm36, pm37, pm39, pm40, pm41, pl2_0, pl2_1, pl2_2, pl3_0, pl3_1, pl3_2, k_refused]
    rw [if_neg (by omega)]
    exact KO.ref ..
  obtain ⟨rfl, hn0, hn1⟩ := wy_0.mp h0
  rw [h0, if_pos (show (0 : Int) = 0 from rfl), if_pos (show ii 0 ≤ 0 by decide)]
  obtain ⟨hh, -⟩ | ⟨-, hR, q, lw, hk, pa, sg, un, l5, l6, s1, s2, s3, hA⟩ := hK
  · omega
  have hw := hR.wd
  clear h0 hy
  have hL := loop_ex (fun N u k (y : Nat → Int → Int) => f_X1_sumAll_L33 (some x) (ii n) N (ii u) (ii k) (hp x F P y f l a b)) (fun u p => u + ts ρ σ p n.toNat) (fun u y => some (ii u, hp x (Fo F 0) P y f l a b)) (fun u k y => y 0 = A 0) (lo := 0) (hi := ρ 2) ?_ ?_ (ρ 2).toNat fk_fuel 0 0 A (by omega) (by omega) (by unfold fk_fuel; omega) rfl
  · obtain ⟨A', e1, e2⟩ := hL
    exact KO.mk F A' (ke.rfl' _) e2 e1
  · intro N u y hu
    try dsimp only
    rw [f_X1_sumAll_L33]
    simp (disch := first | omega | assumption) only [Option.bind_some, bn2_some, ii_lit, ii_neg, ii_add, ii_sub, ii_mul, ii_le, ii_lt, ii_eq, ii_ite, ii_or, ii_and, ii_bit, ii_rem, ii_div, b0_, b1_, b2_, b3_, true_and, and_true, u1_eq, u1_ne, u2_eq, u2_nk, u2_ni, uP_eq, uP_ne, gk1, gk2, gk3, gk4, gk10, gk11, gk12, gk13, gk14, gk15, gk17, gkr0, gkr7, gkr8, gkr9, gkr16, gkr18, gkr19, gkr5, gkr6, ok0, ok1, ok2, ok3, gl2_0, gl2_1, gl2_2, gl3_0, gl3_1, gl3_2, gm0, gm2, gm3, gm4, gm5, gm6, gm7, gm8, gm9, gm10, gm11, gm13, gm14, gm22, gm23, gm26, gm27, gm28, gm29, gm31, gm32, gm33, gm36, gm37, gm39, gm40, gm41, gm1, gm12, gm15, gm16, gm17, gm18, gm19, gm20, gm21, gm24, gm25, gm30, gm34, gm35, gm38, rk0, sk0, rk9, sk9, rk16, sk16, rk18, sk18, rk19, sk19, rm1, sm1, rm12, sm12, rm15, sm15, rm16, sm16, rm17, sm17, rm18, sm18, rm19, sm19, rm20, sm20, rm21, sm21, rm24, sm24, rm25, sm25, rm30, sm30, rm34, sm34, rm35, sm35, rm38, sm38, pk1, pk2, pk3, pk4, pk10, pk11, pk12, pk13, pk14, pk15, pk17, pkr5, pkr6, pm0, pm2, pm3, pm4, pm5, pm6, pm7, pm8, pm9, pm10, pm11, pm13, pz13_0, pz13_1, pm14, pz14_0, pz14_1, pm22, pm23, pm26, pm27, pm28, pm29, pm31, pm32, pm33, pm36, pm37, pm39, pm40, pm41, pl2_0, pl2_1, pl2_2, pl3_0, pl3_1, pl3_2, hA.2.2.1, k_well]
    rw [if_pos (by omega)]
  · intro N u k y k1 k2 hu
    obtain ⟨A', e1, e3⟩ := k_saidIn x F P y f l a b hR hA (p := k) (n := n) k1 k2 hn0 (by omega)
    refine ⟨A', (e3 0 (by omega)).trans hu, ?_⟩
    try dsimp only
    rw [f_X1_sumAll_L33]
    simp (disch := first | omega | assumption) only [Option.bind_some, bn2_some, ii_lit, ii_neg, ii_add, ii_sub, ii_mul, ii_le, ii_lt, ii_eq, ii_ite, ii_or, ii_and, ii_bit, ii_rem, ii_div, b0_, b1_, b2_, b3_, true_and, and_true, u1_eq, u1_ne, u2_eq, u2_nk, u2_ni, uP_eq, uP_ne, gk1, gk2, gk3, gk4, gk10, gk11, gk12, gk13, gk14, gk15, gk17, gkr0, gkr7, gkr8, gkr9, gkr16, gkr18, gkr19, gkr5, gkr6, ok0, ok1, ok2, ok3, gl2_0, gl2_1, gl2_2, gl3_0, gl3_1, gl3_2, gm0, gm2, gm3, gm4, gm5, gm6, gm7, gm8, gm9, gm10, gm11, gm13, gm14, gm22, gm23, gm26, gm27, gm28, gm29, gm31, gm32, gm33, gm36, gm37, gm39, gm40, gm41, gm1, gm12, gm15, gm16, gm17, gm18, gm19, gm20, gm21, gm24, gm25, gm30, gm34, gm35, gm38, rk0, sk0, rk9, sk9, rk16, sk16, rk18, sk18, rk19, sk19, rm1, sm1, rm12, sm12, rm15, sm15, rm16, sm16, rm17, sm17, rm18, sm18, rm19, sm19, rm20, sm20, rm21, sm21, rm24, sm24, rm25, sm25, rm30, sm30, rm34, sm34, rm35, sm35, rm38, sm38, pk1, pk2, pk3, pk4, pk10, pk11, pk12, pk13, pk14, pk15, pk17, pkr5, pkr6, pm0, pm2, pm3, pm4, pm5, pm6, pm7, pm8, pm9, pm10, pm11, pm13, pz13_0, pz13_1, pm14, pz14_0, pz14_1, pm22, pm23, pm26, pm27, pm28, pm29, pm31, pm32, pm33, pm36, pm37, pm39, pm40, pm41, pl2_0, pl2_1, pl2_2, pl3_0, pl3_1, pl3_2, hA.2.2.1, e1]
    rw [if_neg (by omega)]
theorem k_mastersIn (x : Nat) (F : Nat → Int) (P : Nat → Option Nat) (A : Nat → Int → Int) (f l : Nat → Int) (a : Nat → Int → Int) (b : fk_M) {q lw hk : Int → Nat} {pa sg un l5 l6 s1 s2 s3 : Nat} {ρ τ σ : Int → Int} (hR : Rg ρ τ σ) (hA : Api x P b ρ τ σ q lw hk pa sg un l5 l6 s1 s2 s3) {n : Int} (hn0 : 0 ≤ n) (hn : n ≤ 60) : ∃ A', f_X1_mastersIn (some x) (ii n) (hp x F P A f l a b) = some (mst ρ σ n, hp x F P A' f l a b) ∧ A' 0 = A 0 := by
  have hw := hR.wd
  unfold f_X1_mastersIn
  refine loop_ex (fun N (u : Int32) k (y : Nat → Int → Int) => f_X1_mastersIn_L4 (some x) (ii n) N u (ii k) (hp x F P y f l a b)) (fun u p => u ||| (if ρ 0 < 2 * ts ρ σ p n.toNat then i_shl 1 (ii p) else 0)) (fun u y => some (u, hp x F P y f l a b)) (fun u k y => y 0 = A 0) (lo := 0) (hi := ρ 2) ?_ ?_ (ρ 2).toNat fk_fuel 0 0 A (by omega) (by omega) (by unfold fk_fuel; omega) rfl
  · intro N u y hu
    try dsimp only
    rw [f_X1_mastersIn_L4]
    simp (disch := first | omega | assumption) only [Option.bind_some, bn2_some, ii_lit, ii_neg, ii_add, ii_sub, ii_mul, ii_le, ii_lt, ii_eq, ii_ite, ii_or, ii_and, ii_bit, ii_rem, ii_div, b0_, b1_, b2_, b3_, true_and, and_true, u1_eq, u1_ne, u2_eq, u2_nk, u2_ni, uP_eq, uP_ne, gk1, gk2, gk3, gk4, gk10, gk11, gk12, gk13, gk14, gk15, gk17, gkr0, gkr7, gkr8, gkr9, gkr16, gkr18, gkr19, gkr5, gkr6, ok0, ok1, ok2, ok3, gl2_0, gl2_1, gl2_2, gl3_0, gl3_1, gl3_2, gm0, gm2, gm3, gm4, gm5, gm6, gm7, gm8, gm9, gm10, gm11, gm13, gm14, gm22, gm23, gm26, gm27, gm28, gm29, gm31, gm32, gm33, gm36, gm37, gm39, gm40, gm41, gm1, gm12, gm15, gm16, gm17, gm18, gm19, gm20, gm21, gm24, gm25, gm30, gm34, gm35, gm38, rk0, sk0, rk9, sk9, rk16, sk16, rk18, sk18, rk19, sk19, rm1, sm1, rm12, sm12, rm15, sm15, rm16, sm16, rm17, sm17, rm18, sm18, rm19, sm19, rm20, sm20, rm21, sm21, rm24, sm24, rm25, sm25, rm30, sm30, rm34, sm34, rm35, sm35, rm38, sm38, pk1, pk2, pk3, pk4, pk10, pk11, pk12, pk13, pk14, pk15, pk17, pkr5, pkr6, pm0, pm2, pm3, pm4, pm5, pm6, pm7, pm8, pm9, pm10, pm11, pm13, pz13_0, pz13_1, pm14, pz14_0, pz14_1, pm22, pm23, pm26, pm27, pm28, pm29, pm31, pm32, pm33, pm36, pm37, pm39, pm40, pm41, pl2_0, pl2_1, pl2_2, pl3_0, pl3_1, pl3_2, hA.2.2.1, k_well]
    rw [if_pos (by omega)]
  · intro N u k y k1 k2 hu
    obtain ⟨A', e1, e2, e3⟩ := k_tOZ x F P y f l a b hR hA (p := k) (n := n) k1 k2 hn0 (by omega)
    have e4 := e2 n hn0 (Int.le_refl n)
    have ht := ts_rg hR k1 k2 n.toNat
    have e5 := k_isMore x F P A' f l a b hR hA (v := ts ρ σ k n.toNat) (by omega) (by omega)
    refine ⟨A', (e3 0 (by omega)).trans hu, ?_⟩
    try dsimp only
    rw [f_X1_mastersIn_L4]
    simp (disch := first | omega | assumption) only [Option.bind_some, bn2_some, ii_lit, ii_neg, ii_add, ii_sub, ii_mul, ii_le, ii_lt, ii_eq, ii_ite, ii_or, ii_and, ii_bit, ii_rem, ii_div, b0_, b1_, b2_, b3_, true_and, and_true, u1_eq, u1_ne, u2_eq, u2_nk, u2_ni, uP_eq, uP_ne, gk1, gk2, gk3, gk4, gk10, gk11, gk12, gk13, gk14, gk15, gk17, gkr0, gkr7, gkr8, gkr9, gkr16, gkr18, gkr19, gkr5, gkr6, ok0, ok1, ok2, ok3, gl2_0, gl2_1, gl2_2, gl3_0, gl3_1, gl3_2, gm0, gm2, gm3, gm4, gm5, gm6, gm7, gm8, gm9, gm10, gm11, gm13, gm14, gm22, gm23, gm26, gm27, gm28, gm29, gm31, gm32, gm33, gm36, gm37, gm39, gm40, gm41, gm1, gm12, gm15, gm16, gm17, gm18, gm19, gm20, gm21, gm24, gm25, gm30, gm34, gm35, gm38, rk0, sk0, rk9, sk9, rk16, sk16, rk18, sk18, rk19, sk19, rm1, sm1, rm12, sm12, rm15, sm15, rm16, sm16, rm17, sm17, rm18, sm18, rm19, sm19, rm20, sm20, rm21, sm21, rm24, sm24, rm25, sm25, rm30, sm30, rm34, sm34, rm35, sm35, rm38, sm38, pk1, pk2, pk3, pk4, pk10, pk11, pk12, pk13, pk14, pk15, pk17, pkr5, pkr6, pm0, pm2, pm3, pm4, pm5, pm6, pm7, pm8, pm9, pm10, pm11, pm13, pz13_0, pz13_1, pm14, pz14_0, pz14_1, pm22, pm23, pm26, pm27, pm28, pm29, pm31, pm32, pm33, pm36, pm37, pm39, pm40, pm41, pl2_0, pl2_1, pl2_2, pl3_0, pl3_1, pl3_2, hA.2.2.1, e1, e4, e5]
    rw [if_neg (by omega)]
    (repeat' split) <;> first | rfl | omega
theorem k_masters (x : Nat) (F : Nat → Int) (P : Nat → Option Nat) (A : Nat → Int → Int) (f l : Nat → Int) (a : Nat → Int → Int) (b : fk_M) {h : Int} {ρ τ σ : Int → Int} (hK : Kq x P b h ρ τ σ) {n : Int} (hn : rg n) : KO x F P A f l a b (s_masters h ρ σ n) (wy (h = 1) (0 ≤ n ∧ n ≤ 60)) (f_X1_masters (some x) (ii n) (hp x F P A f l a b)) := by
  unfold f_X1_masters s_masters
  rw [gkr5, Option.bind_some, ok0, Option.bind_some, k_has hK, k_whyAhead x F P A f l a b (by have := k_h01 hK; omega) hn, Option.bind_some]
  have hy := wy_rg (h = 1) (0 ≤ n ∧ n ≤ 60)
  by_cases h0 : wy (h = 1) (0 ≤ n ∧ n ≤ 60) = 0
  rotate_left
  · rw [if_neg h0]
    simp (disch := first | omega | assumption) only [Option.bind_some, bn2_some, ii_lit, ii_neg, ii_add, ii_sub, ii_mul, ii_le, ii_lt, ii_eq, ii_ite, ii_or, ii_and, ii_bit, ii_rem, ii_div, b0_, b1_, b2_, b3_, true_and, and_true, u1_eq, u1_ne, u2_eq, u2_nk, u2_ni, uP_eq, uP_ne, gk1, gk2, gk3, gk4, gk10, gk11, gk12, gk13, gk14, gk15, gk17, gkr0, gkr7, gkr8, gkr9, gkr16, gkr18, gkr19, gkr5, gkr6, ok0, ok1, ok2, ok3, gl2_0, gl2_1, gl2_2, gl3_0, gl3_1, gl3_2, gm0, gm2, gm3, gm4, gm5, gm6, gm7, gm8, gm9, gm10, gm11, gm13, gm14, gm22, gm23, gm26, gm27, gm28, gm29, gm31, gm32, gm33, gm36, gm37, gm39, gm40, gm41, gm1, gm12, gm15, gm16, gm17, gm18, gm19, gm20, gm21, gm24, gm25, gm30, gm34, gm35, gm38, rk0, sk0, rk9, sk9, rk16, sk16, rk18, sk18, rk19, sk19, rm1, sm1, rm12, sm12, rm15, sm15, rm16, sm16, rm17, sm17, rm18, sm18, rm19, sm19, rm20, sm20, rm21, sm21, rm24, sm24, rm25, sm25, rm30, sm30, rm34, sm34, rm35, sm35, rm38, sm38, pk1, pk2, pk3, pk4, pk10, pk11, pk12, pk13, pk14, pk15, pk17, pkr5, pkr6, pm0, pm2, pm3, pm4, pm5, pm6, pm7, pm8, pm9, pm10, pm11, pm13, pz13_0, pz13_1, pm14, pz14_0, pz14_1, pm22, pm23, pm26, pm27, pm28, pm29, pm31, pm32, pm33, pm36, pm37, pm39, pm40, pm41, pl2_0, pl2_1, pl2_2, pl3_0, pl3_1, pl3_2, k_refused]
    rw [if_neg (by omega)]
    exact KO.ref ..
  obtain ⟨rfl, hn0, hn1⟩ := wy_0.mp h0
  rw [h0, if_pos (show (0 : Int) = 0 from rfl), if_pos (show ii 0 ≤ 0 by decide)]
  obtain ⟨hh, -⟩ | ⟨-, hR, q, lw, hk, pa, sg, un, l5, l6, s1, s2, s3, hA⟩ := hK
  · omega
  have hw := hR.wd
  clear h0 hy
  obtain ⟨A', e1, e2⟩ := k_mastersIn x F P A f l a b hR hA hn0 hn1
  refine KO.mk F A' (ke.rfl' _) e2 ?_
  have e3 : ii (mst ρ σ n).toInt = mst ρ σ n := (ii_pk _).1.symm
  simp (disch := first | omega | assumption) only [Option.bind_some, bn2_some, ii_lit, ii_neg, ii_add, ii_sub, ii_mul, ii_le, ii_lt, ii_eq, ii_ite, ii_or, ii_and, ii_bit, ii_rem, ii_div, b0_, b1_, b2_, b3_, true_and, and_true, u1_eq, u1_ne, u2_eq, u2_nk, u2_ni, uP_eq, uP_ne, gk1, gk2, gk3, gk4, gk10, gk11, gk12, gk13, gk14, gk15, gk17, gkr0, gkr7, gkr8, gkr9, gkr16, gkr18, gkr19, gkr5, gkr6, ok0, ok1, ok2, ok3, gl2_0, gl2_1, gl2_2, gl3_0, gl3_1, gl3_2, gm0, gm2, gm3, gm4, gm5, gm6, gm7, gm8, gm9, gm10, gm11, gm13, gm14, gm22, gm23, gm26, gm27, gm28, gm29, gm31, gm32, gm33, gm36, gm37, gm39, gm40, gm41, gm1, gm12, gm15, gm16, gm17, gm18, gm19, gm20, gm21, gm24, gm25, gm30, gm34, gm35, gm38, rk0, sk0, rk9, sk9, rk16, sk16, rk18, sk18, rk19, sk19, rm1, sm1, rm12, sm12, rm15, sm15, rm16, sm16, rm17, sm17, rm18, sm18, rm19, sm19, rm20, sm20, rm21, sm21, rm24, sm24, rm25, sm25, rm30, sm30, rm34, sm34, rm35, sm35, rm38, sm38, pk1, pk2, pk3, pk4, pk10, pk11, pk12, pk13, pk14, pk15, pk17, pkr5, pkr6, pm0, pm2, pm3, pm4, pm5, pm6, pm7, pm8, pm9, pm10, pm11, pm13, pz13_0, pz13_1, pm14, pz14_0, pz14_1, pm22, pm23, pm26, pm27, pm28, pm29, pm31, pm32, pm33, pm36, pm37, pm39, pm40, pm41, pl2_0, pl2_1, pl2_2, pl3_0, pl3_1, pl3_2, e1, k_well, e3]
theorem k_widest2 (x : Nat) (F : Nat → Int) (P : Nat → Option Nat) (A : Nat → Int → Int) (f l : Nat → Int) (a : Nat → Int → Int) (b : fk_M) {q lw hk : Int → Nat} {pa sg un l5 l6 s1 s2 s3 : Nat} {ρ τ σ : Int → Int} (hR : Rg ρ τ σ) (hA : Api x P b ρ τ σ q lw hk pa sg un l5 l6 s1 s2 s3) {n p : Int} (h2 : 0 ≤ n) (h3 : n ≤ 60) (h0 : 0 ≤ p) (h1 : p < ρ 2) (R : Int32 → Int32 → Int32 → fk_M → Option (Int32 × fk_M)) (u : Int × Int) (hu : -1 ≤ u.2 ∧ u.2 ≤ 1000) : ∃ A', f_X1_widest_L52 R (some x) (ii n) (ii p) fk_fuel (ii u.1) (ii u.2) (ii (p + 1)) (hp x F P A f l a b) = R (ii (wd1 ρ σ n u p).1) (ii (wd1 ρ σ n u p).2) (ii (p + 1)) (hp x F P A' f l a b) ∧ (-1 ≤ (wd1 ρ σ n u p).2 ∧ (wd1 ρ σ n u p).2 ≤ 1000) ∧ A' 0 = A 0 := by
  have hw := hR.wd
  refine loop_ex (fun N (u : Int × Int) k (y : Nat → Int → Int) => f_X1_widest_L52 R (some x) (ii n) (ii p) N (ii u.1) (ii u.2) (ii k) (hp x F P y f l a b)) (wd2 ρ σ n p) (fun u y => R (ii u.1) (ii u.2) (ii (p + 1)) (hp x F P y f l a b)) (fun u k y => (-1 ≤ u.2 ∧ u.2 ≤ 1000) ∧ y 0 = A 0) (lo := p + 1) (hi := ρ 2) ?_ ?_ (ρ 2 - (p + 1)).toNat fk_fuel u (p + 1) A (by omega) (by omega) (by unfold fk_fuel; omega) ⟨hu, rfl⟩
  · intro N u y hu
    try dsimp only
    rw [f_X1_widest_L52]
    simp (disch := first | omega | assumption) only [Option.bind_some, bn2_some, ii_lit, ii_neg, ii_add, ii_sub, ii_mul, ii_le, ii_lt, ii_eq, ii_ite, ii_or, ii_and, ii_bit, ii_rem, ii_div, b0_, b1_, b2_, b3_, true_and, and_true, u1_eq, u1_ne, u2_eq, u2_nk, u2_ni, uP_eq, uP_ne, gk1, gk2, gk3, gk4, gk10, gk11, gk12, gk13, gk14, gk15, gk17, gkr0, gkr7, gkr8, gkr9, gkr16, gkr18, gkr19, gkr5, gkr6, ok0, ok1, ok2, ok3, gl2_0, gl2_1, gl2_2, gl3_0, gl3_1, gl3_2, gm0, gm2, gm3, gm4, gm5, gm6, gm7, gm8, gm9, gm10, gm11, gm13, gm14, gm22, gm23, gm26, gm27, gm28, gm29, gm31, gm32, gm33, gm36, gm37, gm39, gm40, gm41, gm1, gm12, gm15, gm16, gm17, gm18, gm19, gm20, gm21, gm24, gm25, gm30, gm34, gm35, gm38, rk0, sk0, rk9, sk9, rk16, sk16, rk18, sk18, rk19, sk19, rm1, sm1, rm12, sm12, rm15, sm15, rm16, sm16, rm17, sm17, rm18, sm18, rm19, sm19, rm20, sm20, rm21, sm21, rm24, sm24, rm25, sm25, rm30, sm30, rm34, sm34, rm35, sm35, rm38, sm38, pk1, pk2, pk3, pk4, pk10, pk11, pk12, pk13, pk14, pk15, pk17, pkr5, pkr6, pm0, pm2, pm3, pm4, pm5, pm6, pm7, pm8, pm9, pm10, pm11, pm13, pz13_0, pz13_1, pm14, pz14_0, pz14_1, pm22, pm23, pm26, pm27, pm28, pm29, pm31, pm32, pm33, pm36, pm37, pm39, pm40, pm41, pl2_0, pl2_1, pl2_2, pl3_0, pl3_1, pl3_2, hA.2.2.1]
    rw [if_pos (by omega)]
  · intro N u k y k1 k2 hu
    obtain ⟨A1, e1, e3⟩ := k_saidIn x F P y f l a b hR hA (p := p) (n := n) h0 h1 h2 (by omega)
    obtain ⟨A2, e4, e6⟩ := k_saidIn x F P A1 f l a b hR hA (p := k) (n := n) (by omega) k2 h2 (by omega)
    have ht := ts_rg hR h0 h1 n.toNat
    have ht2 := ts_rg hR (show 0 ≤ k by omega) k2 n.toNat
    have hf : 0 ≤ far ρ σ n p k ∧ far ρ σ n p k ≤ 1000 := by
      unfold far
      split <;> omega
    refine ⟨A2, ⟨by unfold wd2; split <;> omega, (e6 0 (by omega)).trans ((e3 0 (by omega)).trans hu.2)⟩, ?_⟩
    obtain ⟨⟨hu1, hu2⟩, hu3⟩ := hu
    have e : (if 0 ≤ ts ρ σ p n.toNat - ts ρ σ k n.toNat then ts ρ σ p n.toNat - ts ρ σ k n.toNat else 0 - (ts ρ σ p n.toNat - ts ρ σ k n.toNat)) = far ρ σ n p k := by
      unfold far
      split <;> omega
    try dsimp only
    rw [f_X1_widest_L52]
    simp (disch := first | omega | assumption) only [Option.bind_some, bn2_some, ii_lit, ii_neg, ii_add, ii_sub, ii_mul, ii_le, ii_lt, ii_eq, ii_ite, ii_or, ii_and, ii_bit, ii_rem, ii_div, b0_, b1_, b2_, b3_, true_and, and_true, u1_eq, u1_ne, u2_eq, u2_nk, u2_ni, uP_eq, uP_ne, gk1, gk2, gk3, gk4, gk10, gk11, gk12, gk13, gk14, gk15, gk17, gkr0, gkr7, gkr8, gkr9, gkr16, gkr18, gkr19, gkr5, gkr6, ok0, ok1, ok2, ok3, gl2_0, gl2_1, gl2_2, gl3_0, gl3_1, gl3_2, gm0, gm2, gm3, gm4, gm5, gm6, gm7, gm8, gm9, gm10, gm11, gm13, gm14, gm22, gm23, gm26, gm27, gm28, gm29, gm31, gm32, gm33, gm36, gm37, gm39, gm40, gm41, gm1, gm12, gm15, gm16, gm17, gm18, gm19, gm20, gm21, gm24, gm25, gm30, gm34, gm35, gm38, rk0, sk0, rk9, sk9, rk16, sk16, rk18, sk18, rk19, sk19, rm1, sm1, rm12, sm12, rm15, sm15, rm16, sm16, rm17, sm17, rm18, sm18, rm19, sm19, rm20, sm20, rm21, sm21, rm24, sm24, rm25, sm25, rm30, sm30, rm34, sm34, rm35, sm35, rm38, sm38, pk1, pk2, pk3, pk4, pk10, pk11, pk12, pk13, pk14, pk15, pk17, pkr5, pkr6, pm0, pm2, pm3, pm4, pm5, pm6, pm7, pm8, pm9, pm10, pm11, pm13, pz13_0, pz13_1, pm14, pz14_0, pz14_1, pm22, pm23, pm26, pm27, pm28, pm29, pm31, pm32, pm33, pm36, pm37, pm39, pm40, pm41, pl2_0, pl2_1, pl2_2, pl3_0, pl3_1, pl3_2, hA.2.2.1, e1, e4, ii_abs, e]
    rw [if_neg (by omega)]
    unfold wd2
    split <;> rfl
theorem k_widest (x : Nat) (F : Nat → Int) (P : Nat → Option Nat) (A : Nat → Int → Int) (f l : Nat → Int) (a : Nat → Int → Int) (b : fk_M) {h : Int} {ρ τ σ : Int → Int} (hK : Kq x P b h ρ τ σ) {n : Int} (hn : rg n) : KO x F P A f l a b (s_widest h ρ σ n) (wy (h = 1) (0 ≤ n ∧ n ≤ 60)) (f_X1_widest (some x) (ii n) (hp x F P A f l a b)) := by
  unfold f_X1_widest s_widest
  rw [gkr5, Option.bind_some, ok0, Option.bind_some, k_has hK, k_whyAhead x F P A f l a b (by have := k_h01 hK; omega) hn, Option.bind_some]
  have hy := wy_rg (h = 1) (0 ≤ n ∧ n ≤ 60)
  by_cases h0 : wy (h = 1) (0 ≤ n ∧ n ≤ 60) = 0
  rotate_left
  · rw [if_neg h0]
    simp (disch := first | omega | assumption) only [Option.bind_some, bn2_some, ii_lit, ii_neg, ii_add, ii_sub, ii_mul, ii_le, ii_lt, ii_eq, ii_ite, ii_or, ii_and, ii_bit, ii_rem, ii_div, b0_, b1_, b2_, b3_, true_and, and_true, u1_eq, u1_ne, u2_eq, u2_nk, u2_ni, uP_eq, uP_ne, gk1, gk2, gk3, gk4, gk10, gk11, gk12, gk13, gk14, gk15, gk17, gkr0, gkr7, gkr8, gkr9, gkr16, gkr18, gkr19, gkr5, gkr6, ok0, ok1, ok2, ok3, gl2_0, gl2_1, gl2_2, gl3_0, gl3_1, gl3_2, gm0, gm2, gm3, gm4, gm5, gm6, gm7, gm8, gm9, gm10, gm11, gm13, gm14, gm22, gm23, gm26, gm27, gm28, gm29, gm31, gm32, gm33, gm36, gm37, gm39, gm40, gm41, gm1, gm12, gm15, gm16, gm17, gm18, gm19, gm20, gm21, gm24, gm25, gm30, gm34, gm35, gm38, rk0, sk0, rk9, sk9, rk16, sk16, rk18, sk18, rk19, sk19, rm1, sm1, rm12, sm12, rm15, sm15, rm16, sm16, rm17, sm17, rm18, sm18, rm19, sm19, rm20, sm20, rm21, sm21, rm24, sm24, rm25, sm25, rm30, sm30, rm34, sm34, rm35, sm35, rm38, sm38, pk1, pk2, pk3, pk4, pk10, pk11, pk12, pk13, pk14, pk15, pk17, pkr5, pkr6, pm0, pm2, pm3, pm4, pm5, pm6, pm7, pm8, pm9, pm10, pm11, pm13, pz13_0, pz13_1, pm14, pz14_0, pz14_1, pm22, pm23, pm26, pm27, pm28, pm29, pm31, pm32, pm33, pm36, pm37, pm39, pm40, pm41, pl2_0, pl2_1, pl2_2, pl3_0, pl3_1, pl3_2, k_refused]
    rw [if_neg (by omega)]
    exact KO.ref ..
  obtain ⟨rfl, hn0, hn1⟩ := wy_0.mp h0
  rw [h0, if_pos (show (0 : Int) = 0 from rfl), if_pos (show ii 0 ≤ 0 by decide)]
  obtain ⟨hh, -⟩ | ⟨-, hR, q, lw, hk, pa, sg, un, l5, l6, s1, s2, s3, hA⟩ := hK
  · omega
  have hw := hR.wd
  clear h0 hy
  have hL := loop_ex (fun N (u : Int × Int) k (y : Nat → Int → Int) => f_X1_widest_L37 (some x) (ii n) N (ii u.1) (ii u.2) (ii k) (hp x F P y f l a b)) (wd1 ρ σ n) (fun u y => some (ii u.1, hp x (Fo F 0) P y f l a b)) (fun u k y => (-1 ≤ u.2 ∧ u.2 ≤ 1000) ∧ y 0 = A 0) (lo := 0) (hi := ρ 2) ?_ ?_ (ρ 2).toNat fk_fuel (-2, -1) 0 A (by omega) (by omega) (by unfold fk_fuel; omega) ⟨by decide, rfl⟩
  · obtain ⟨A', e1, e2⟩ := hL
    exact KO.mk F A' (ke.rfl' _) e2.2 e1
  · intro N u y hu
    try dsimp only
    rw [f_X1_widest_L37]
    simp (disch := first | omega | assumption) only [Option.bind_some, bn2_some, ii_lit, ii_neg, ii_add, ii_sub, ii_mul, ii_le, ii_lt, ii_eq, ii_ite, ii_or, ii_and, ii_bit, ii_rem, ii_div, b0_, b1_, b2_, b3_, true_and, and_true, u1_eq, u1_ne, u2_eq, u2_nk, u2_ni, uP_eq, uP_ne, gk1, gk2, gk3, gk4, gk10, gk11, gk12, gk13, gk14, gk15, gk17, gkr0, gkr7, gkr8, gkr9, gkr16, gkr18, gkr19, gkr5, gkr6, ok0, ok1, ok2, ok3, gl2_0, gl2_1, gl2_2, gl3_0, gl3_1, gl3_2, gm0, gm2, gm3, gm4, gm5, gm6, gm7, gm8, gm9, gm10, gm11, gm13, gm14, gm22, gm23, gm26, gm27, gm28, gm29, gm31, gm32, gm33, gm36, gm37, gm39, gm40, gm41, gm1, gm12, gm15, gm16, gm17, gm18, gm19, gm20, gm21, gm24, gm25, gm30, gm34, gm35, gm38, rk0, sk0, rk9, sk9, rk16, sk16, rk18, sk18, rk19, sk19, rm1, sm1, rm12, sm12, rm15, sm15, rm16, sm16, rm17, sm17, rm18, sm18, rm19, sm19, rm20, sm20, rm21, sm21, rm24, sm24, rm25, sm25, rm30, sm30, rm34, sm34, rm35, sm35, rm38, sm38, pk1, pk2, pk3, pk4, pk10, pk11, pk12, pk13, pk14, pk15, pk17, pkr5, pkr6, pm0, pm2, pm3, pm4, pm5, pm6, pm7, pm8, pm9, pm10, pm11, pm13, pz13_0, pz13_1, pm14, pz14_0, pz14_1, pm22, pm23, pm26, pm27, pm28, pm29, pm31, pm32, pm33, pm36, pm37, pm39, pm40, pm41, pl2_0, pl2_1, pl2_2, pl3_0, pl3_1, pl3_2, hA.2.2.1, k_well]
    rw [if_pos (by omega)]
  · intro N u k y k1 k2 hu
    obtain ⟨A1, e1, e2, e3⟩ := k_widest2 x F P y f l a b hR hA hn0 hn1 k1 k2 (f_X1_widest_L37 (some x) (ii n) N) u hu.1
    refine ⟨A1, ⟨e2, e3.trans hu.2⟩, ?_⟩
    try dsimp only
    rw [f_X1_widest_L37]
    simp (disch := first | omega | assumption) only [Option.bind_some, bn2_some, ii_lit, ii_neg, ii_add, ii_sub, ii_mul, ii_le, ii_lt, ii_eq, ii_ite, ii_or, ii_and, ii_bit, ii_rem, ii_div, b0_, b1_, b2_, b3_, true_and, and_true, u1_eq, u1_ne, u2_eq, u2_nk, u2_ni, uP_eq, uP_ne, gk1, gk2, gk3, gk4, gk10, gk11, gk12, gk13, gk14, gk15, gk17, gkr0, gkr7, gkr8, gkr9, gkr16, gkr18, gkr19, gkr5, gkr6, ok0, ok1, ok2, ok3, gl2_0, gl2_1, gl2_2, gl3_0, gl3_1, gl3_2, gm0, gm2, gm3, gm4, gm5, gm6, gm7, gm8, gm9, gm10, gm11, gm13, gm14, gm22, gm23, gm26, gm27, gm28, gm29, gm31, gm32, gm33, gm36, gm37, gm39, gm40, gm41, gm1, gm12, gm15, gm16, gm17, gm18, gm19, gm20, gm21, gm24, gm25, gm30, gm34, gm35, gm38, rk0, sk0, rk9, sk9, rk16, sk16, rk18, sk18, rk19, sk19, rm1, sm1, rm12, sm12, rm15, sm15, rm16, sm16, rm17, sm17, rm18, sm18, rm19, sm19, rm20, sm20, rm21, sm21, rm24, sm24, rm25, sm25, rm30, sm30, rm34, sm34, rm35, sm35, rm38, sm38, pk1, pk2, pk3, pk4, pk10, pk11, pk12, pk13, pk14, pk15, pk17, pkr5, pkr6, pm0, pm2, pm3, pm4, pm5, pm6, pm7, pm8, pm9, pm10, pm11, pm13, pz13_0, pz13_1, pm14, pz14_0, pz14_1, pm22, pm23, pm26, pm27, pm28, pm29, pm31, pm32, pm33, pm36, pm37, pm39, pm40, pm41, pl2_0, pl2_1, pl2_2, pl3_0, pl3_1, pl3_2, hA.2.2.1]
    rw [if_neg (by omega)]
    exact e1
