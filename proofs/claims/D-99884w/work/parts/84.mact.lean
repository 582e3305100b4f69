/-! PLAIN 29: the model's acts -/
set_option maxRecDepth 100000
theorem m_note (x : Nat) (F : Nat → Int) (P : Nat → Option Nat) (A : Nat → Int → Int) (f l : Nat → Int) (a : Nat → Int → Int) (b : fk_M) {u : Nat} (hu : u ≤ 16) (h22 : f 22 = u) : ∃ a', f_X2_note (some (x + 8)) (hp x F P A f l a b) = some (hp x F P A (u1 f 22 (nu u)) l a' b) ∧ (∀ j, j ≠ 20 → a' j = a j) ∧ Nt (a 20) (a 19) (a' 20) u := by
  have hJ : ∀ (f : Nat → Int) (a : Nat → Int → Int) (v : Nat), v ≤ 15 → f 22 = v → ∃ a', f_X2_note_J49 (some (x + 8)) (hp x F P A f l a b) = some (hp x F P A (u1 f 22 ((v : Int) + 1)) l a' b) ∧ (∀ j, j ≠ 20 → a' j = a j) ∧ ∀ t, a' 20 t = if 36 * (v : Int) ≤ t ∧ t < 36 * v + 36 then a 19 (0 + (t - 36 * v)) else a 20 t := by
    intro f a v hv hf
    obtain ⟨a', g1, g2, g3⟩ := m_copy x F P A f l a b 15 16 (by omega) (by omega) (by decide) (i := 0) (j := 36 * (v : Int)) (n := 36) (by omega) (by omega) (by omega) (by omega) (by decide) (by show 36 * (v : Int) + 36 ≤ 576; omega) (by omega) (by omega)
    refine ⟨a', ?_, g2, g3⟩
    unfold f_X2_note_J49
    simp (disch := first | omega | assumption) only [Option.bind_some, bn2_some, ii_lit, ii_neg, ii_add, ii_sub, ii_mul, ii_le, ii_lt, ii_eq, ii_ite, ii_or, ii_and, ii_bit, ii_rem, ii_div, b0_, b1_, b2_, b3_, true_and, and_true, u1_eq, u1_ne, u2_eq, u2_nk, u2_ni, uP_eq, uP_ne, gk1, gk2, gk3, gk4, gk10, gk11, gk12, gk13, gk14, gk15, gk17, gkr0, gkr7, gkr8, gkr9, gkr16, gkr18, gkr19, gkr5, gkr6, ok0, ok1, ok2, ok3, gl2_0, gl2_1, gl2_2, gl3_0, gl3_1, gl3_2, gm0, gm2, gm3, gm4, gm5, gm6, gm7, gm8, gm9, gm10, gm11, gm13, gm14, gm22, gm23, gm26, gm27, gm28, gm29, gm31, gm32, gm33, gm36, gm37, gm39, gm40, gm41, gm1, gm12, gm15, gm16, gm17, gm18, gm19, gm20, gm21, gm24, gm25, gm30, gm34, gm35, gm38, rk0, sk0, rk9, sk9, rk16, sk16, rk18, sk18, rk19, sk19, rm1, sm1, rm12, sm12, rm15, sm15, rm16, sm16, rm17, sm17, rm18, sm18, rm19, sm19, rm20, sm20, rm21, sm21, rm24, sm24, rm25, sm25, rm30, sm30, rm34, sm34, rm35, sm35, rm38, sm38, pk1, pk2, pk3, pk4, pk10, pk11, pk12, pk13, pk14, pk15, pk17, pkr5, pkr6, pm0, pm2, pm3, pm4, pm5, pm6, pm7, pm8, pm9, pm10, pm11, pm13, pz13_0, pz13_1, pm14, pz14_0, pz14_1, pm22, pm23, pm26, pm27, pm28, pm29, pm31, pm32, pm33, pm36, pm37, pm39, pm40, pm41, pl2_0, pl2_1, pl2_2, pl3_0, pl3_1, pl3_2, hf, g1]
  unfold f_X2_note
  rw [gm22, Option.bind_some, h22]
  by_cases h16 : u = 16
  · subst h16
    rw [if_pos (show ii ((16 : Nat) : Int) = 16 from rfl)]
    have hL := loop_ex (fun N (_ : Unit) k (y : Nat → Int → Int) => f_X2_note_L11 (some (x + 8)) N (ii k) (hp x F P A f l y b)) (fun u k => u) (fun u y => f_X2_note_J49 (some (x + 8)) (hp x F P A (u1 f 22 15) l y b)) (fun u k y => (∀ j, j ≠ 20 → y j = a j) ∧ ∀ t, y 20 t = if 0 ≤ t ∧ t < k then a 20 (t + 36) else a 20 t) (lo := 0) (hi := 540) ?_ ?_ 540 fk_fuel () 0 a (by omega) (by omega) (by unfold fk_fuel; omega) ⟨fun _ _ => rfl, fun t => by rw [if_neg (by omega)]⟩
    · obtain ⟨y, g1, g2, g3⟩ := hL
      obtain ⟨a', k1, k2, k3⟩ := hJ (u1 f 22 15) y 15 (by omega) (u1_eq ..)
      refine ⟨a', ?_, fun j hj => (k2 j hj).trans (g2 j hj), fun i t t0 t1 => ⟨fun _ => ⟨fun hi => ?_, fun hi => ?_⟩, fun h => absurd rfl h⟩⟩
      · rw [show f_X2_note_L11 (some (x + 8)) fk_fuel 0 (hp x F P A f l a b) = _ from g1, k1, u1_u1]
        rfl
      · unfold rw_
        rw [k3, if_neg (by omega), g3, if_pos (by omega), show 36 * (i : Int) + t + 36 = 36 * ((i + 1 : Nat) : Int) + t by omega]
      · subst hi
        unfold rw_
        rw [k3, if_pos (by omega), g2 19 (by omega), show 0 + (36 * ((15 : Nat) : Int) + t - 36 * ((15 : Nat) : Int)) = t by omega]
    · intro N u y hy
      try dsimp only
      rw [f_X2_note_L11]
      simp (disch := first | omega | assumption) only [Option.bind_some, bn2_some, ii_lit, ii_neg, ii_add, ii_sub, ii_mul, ii_le, ii_lt, ii_eq, ii_ite, ii_or, ii_and, ii_bit, ii_rem, ii_div, b0_, b1_, b2_, b3_, true_and, and_true, u1_eq, u1_ne, u2_eq, u2_nk, u2_ni, uP_eq, uP_ne, gk1, gk2, gk3, gk4, gk10, gk11, gk12, gk13, gk14, gk15, gk17, gkr0, gkr7, gkr8, gkr9, gkr16, gkr18, gkr19, gkr5, gkr6, ok0, ok1, ok2, ok3, gl2_0, gl2_1, gl2_2, gl3_0, gl3_1, gl3_2, gm0, gm2, gm3, gm4, gm5, gm6, gm7, gm8, gm9, gm10, gm11, gm13, gm14, gm22, gm23, gm26, gm27, gm28, gm29, gm31, gm32, gm33, gm36, gm37, gm39, gm40, gm41, gm1, gm12, gm15, gm16, gm17, gm18, gm19, gm20, gm21, gm24, gm25, gm30, gm34, gm35, gm38, rk0, sk0, rk9, sk9, rk16, sk16, rk18, sk18, rk19, sk19, rm1, sm1, rm12, sm12, rm15, sm15, rm16, sm16, rm17, sm17, rm18, sm18, rm19, sm19, rm20, sm20, rm21, sm21, rm24, sm24, rm25, sm25, rm30, sm30, rm34, sm34, rm35, sm35, rm38, sm38, pk1, pk2, pk3, pk4, pk10, pk11, pk12, pk13, pk14, pk15, pk17, pkr5, pkr6, pm0, pm2, pm3, pm4, pm5, pm6, pm7, pm8, pm9, pm10, pm11, pm13, pz13_0, pz13_1, pm14, pz14_0, pz14_1, pm22, pm23, pm26, pm27, pm28, pm29, pm31, pm32, pm33, pm36, pm37, pm39, pm40, pm41, pl2_0, pl2_1, pl2_2, pl3_0, pl3_1, pl3_2, h22]
      rw [if_pos (by omega)]
      rfl
    · intro N u k y k1 k2 hy
      refine ⟨u2 y 20 k (y 20 (k + 36)), ⟨fun j hj => (u2_nk _ _ _ hj).trans (hy.1 j hj), fun t => ?_⟩, ?_⟩
      · by_cases ht : t = k
        · rw [ht, u2_eq, if_pos (by omega), hy.2, if_neg (by omega)]
        · rw [u2_ni _ _ _ ht, hy.2]
          by_cases hc : 0 ≤ t ∧ t < k
          · rw [if_pos hc, if_pos (by omega)]
          · rw [if_neg hc, if_neg (by omega)]
      · try dsimp only
        rw [f_X2_note_L11]
        simp (disch := first | omega | assumption) only [Option.bind_some, bn2_some, ii_lit, ii_neg, ii_add, ii_sub, ii_mul, ii_le, ii_lt, ii_eq, ii_ite, ii_or, ii_and, ii_bit, ii_rem, ii_div, b0_, b1_, b2_, b3_, true_and, and_true, u1_eq, u1_ne, u2_eq, u2_nk, u2_ni, uP_eq, uP_ne, gk1, gk2, gk3, gk4, gk10, gk11, gk12, gk13, gk14, gk15, gk17, gkr0, gkr7, gkr8, gkr9, gkr16, gkr18, gkr19, gkr5, gkr6, ok0, ok1, ok2, ok3, gl2_0, gl2_1, gl2_2, gl3_0, gl3_1, gl3_2, gm0, gm2, gm3, gm4, gm5, gm6, gm7, gm8, gm9, gm10, gm11, gm13, gm14, gm22, gm23, gm26, gm27, gm28, gm29, gm31, gm32, gm33, gm36, gm37, gm39, gm40, gm41, gm1, gm12, gm15, gm16, gm17, gm18, gm19, gm20, gm21, gm24, gm25, gm30, gm34, gm35, gm38, rk0, sk0, rk9, sk9, rk16, sk16, rk18, sk18, rk19, sk19, rm1, sm1, rm12, sm12, rm15, sm15, rm16, sm16, rm17, sm17, rm18, sm18, rm19, sm19, rm20, sm20, rm21, sm21, rm24, sm24, rm25, sm25, rm30, sm30, rm34, sm34, rm35, sm35, rm38, sm38, pk1, pk2, pk3, pk4, pk10, pk11, pk12, pk13, pk14, pk15, pk17, pkr5, pkr6, pm0, pm2, pm3, pm4, pm5, pm6, pm7, pm8, pm9, pm10, pm11, pm13, pz13_0, pz13_1, pm14, pz14_0, pz14_1, pm22, pm23, pm26, pm27, pm28, pm29, pm31, pm32, pm33, pm36, pm37, pm39, pm40, pm41, pl2_0, pl2_1, pl2_2, pl3_0, pl3_1, pl3_2]
        rw [if_neg (by omega)]
  · rw [if_neg (by rw [show (16 : Int32) = ii 16 from rfl, ii_eq (by omega) (by omega)]; omega)]
    obtain ⟨a', k1, k2, k3⟩ := hJ f a u (by omega) h22
    refine ⟨a', ?_, k2, fun i t t0 t1 => ⟨fun h => absurd h h16, fun _ => ⟨fun hi => ?_, fun hi => ?_⟩⟩⟩
    · rw [k1]
      unfold nu
      rw [if_neg h16]
      rfl
    · unfold rw_
      rw [k3, if_neg (by omega)]
    · subst hi
      unfold rw_
      rw [k3, if_pos (by omega), show 0 + (36 * (i : Int) + t - 36 * (i : Int)) = t by omega]
/-- an act of the model -/
def MA (x : Nat) (F : Nat → Int) (P : Nat → Option Nat) (A : Nat → Int → Int) (f l : Nat → Int) (a : Nat → Int → Int) (b : fk_M) (u : Nat) (r : Int) (σ' : Int → Int) (res : Option (Int32 × fk_M)) : Prop := ∃ f' l' a', res = some (ii r, hp x F P A f' l' a' b) ∧ f' 0 = 0 ∧ f' 11 = 0 ∧ (f' 2 = f 2 ∧ f' 9 = f 9 ∧ f' 10 = f 10 ∧ f' 14 = f 14 ∧ f' 23 = f 23) ∧ (a' 1 = a 1 ∧ a' 15 = a 15 ∧ a' 17 = a 17 ∧ a' 21 = a 21) ∧ (∀ t, 0 ≤ t → t < 36 → a' 19 t = σ' t) ∧ f' 22 = nu u ∧ Nt (a 20) (a 19) (a' 20) u
theorem MA.mk {x : Nat} {F : Nat → Int} {P : Nat → Option Nat} {A : Nat → Int → Int} {f l : Nat → Int} {a : Nat → Int → Int} {b : fk_M} {u : Nat} {r : Int} {σ' : Int → Int} {res : Option (Int32 × fk_M)} (a1 a' : Nat → Int → Int) (h1 : ∀ j, j ≠ 20 → a1 j = a j) (h2 : Nt (a 20) (a 19) (a1 20) u) (h3 : ∀ j, j ≠ 19 → a' j = a1 j) (h4 : ∀ t, 0 ≤ t → t < 36 → a' 19 t = σ' t) (h : res = some (ii r, hp x F P A (u1 (fo f 0) 22 (nu u)) l a' b)) : MA x F P A f l a b u r σ' res := by
  have k : ∀ j, j ≠ 0 → j ≠ 11 → j ≠ 22 → u1 (fo f 0) 22 (nu u) j = f j := fun j j1 j2 j3 => (u1_ne _ _ j3).trans ((u1_ne _ _ j2).trans (u1_ne _ _ j1))
  refine ⟨u1 (fo f 0) 22 (nu u), l, a', h, (u1_ne _ _ (by omega)).trans ((u1_ne _ _ (by omega)).trans (u1_eq ..)), (u1_ne _ _ (by omega)).trans (u1_eq ..), ⟨k 2 (by omega) (by omega) (by omega), k 9 (by omega) (by omega) (by omega), k 10 (by omega) (by omega) (by omega), k 14 (by omega) (by omega) (by omega), k 23 (by omega) (by omega) (by omega)⟩, ⟨(h3 1 (by omega)).trans (h1 1 (by omega)), (h3 15 (by omega)).trans (h1 15 (by omega)), (h3 17 (by omega)).trans (h1 17 (by omega)), (h3 21 (by omega)).trans (h1 21 (by omega))⟩, h4, u1_eq .., ?_⟩
  rw [h3 20 (by omega)]
  exact h2
def w_change (h : Int) (ρ σ : Int → Int) (p : Int) : Int := if (h = 1 ∧ 0 ≤ p ∧ p < ρ 2) then (if 2 * σ p = ρ 0 then 5 else 0) else 1
def su1 (σ : Int → Int) (p v : Int) : Int → Int := fun t => if t = p then v else σ t
theorem m_change (x : Nat) (F : Nat → Int) (P : Nat → Option Nat) (A : Nat → Int → Int) (f l : Nat → Int) (a : Nat → Int → Int) (b : fk_M) {u : Nat} (hu : u ≤ 16) (h22 : f 22 = u) {p : Int} (hp0 : rg p) (hM : Hm f a) : (w_change (f 14) (a 15) (a 19) p ≠ 0 → MO x F P A f l a b (-1) (w_change (f 14) (a 15) (a 19) p) (f_X2_change (some (x + 8)) (ii p) (hp x F P A f l a b))) ∧ (w_change (f 14) (a 15) (a 19) p = 0 → MA x F P A f l a b u (a 15 0 - a 19 p) (su1 (a 19) p (a 15 0 - a 19 p)) (f_X2_change (some (x + 8)) (ii p) (hp x F P A f l a b))) := by
  unfold f_X2_change w_change
  have hM' : Hm (fo f 0) a := hM
  simp (disch := first | omega | assumption) only [Option.bind_some, bn2_some, ii_lit, ii_neg, ii_add, ii_sub, ii_mul, ii_le, ii_lt, ii_eq, ii_ite, ii_or, ii_and, ii_bit, ii_rem, ii_div, b0_, b1_, b2_, b3_, true_and, and_true, u1_eq, u1_ne, u2_eq, u2_nk, u2_ni, uP_eq, uP_ne, gk1, gk2, gk3, gk4, gk10, gk11, gk12, gk13, gk14, gk15, gk17, gkr0, gkr7, gkr8, gkr9, gkr16, gkr18, gkr19, gkr5, gkr6, ok0, ok1, ok2, ok3, gl2_0, gl2_1, gl2_2, gl3_0, gl3_1, gl3_2, gm0, gm2, gm3, gm4, gm5, gm6, gm7, gm8, gm9, gm10, gm11, gm13, gm14, gm22, gm23, gm26, gm27, gm28, gm29, gm31, gm32, gm33, gm36, gm37, gm39, gm40, gm41, gm1, gm12, gm15, gm16, gm17, gm18, gm19, gm20, gm21, gm24, gm25, gm30, gm34, gm35, gm38, rk0, sk0, rk9, sk9, rk16, sk16, rk18, sk18, rk19, sk19, rm1, sm1, rm12, sm12, rm15, sm15, rm16, sm16, rm17, sm17, rm18, sm18, rm19, sm19, rm20, sm20, rm21, sm21, rm24, sm24, rm25, sm25, rm30, sm30, rm34, sm34, rm35, sm35, rm38, sm38, pk1, pk2, pk3, pk4, pk10, pk11, pk12, pk13, pk14, pk15, pk17, pkr5, pkr6, pm0, pm2, pm3, pm4, pm5, pm6, pm7, pm8, pm9, pm10, pm11, pm13, pz13_0, pz13_1, pm14, pz14_0, pz14_1, pm22, pm23, pm26, pm27, pm28, pm29, pm31, pm32, pm33, pm36, pm37, pm39, pm40, pm41, pl2_0, pl2_1, pl2_2, pl3_0, pl3_1, pl3_2, m_good, m_isPair, m_no, u1_u1]
  by_cases h0 : (f 14 = 1 ∧ 0 ≤ p ∧ p < a 15 2)
  rotate_left
  · rw [if_pos h0, if_neg h0]
    exact ⟨fun _ => MO.ref .., fun h => absurd h (by decide)⟩
  rw [if_neg (Decidable.not_not.mpr h0), if_pos h0]
  obtain ⟨h1, p0, p1⟩ := h0
  obtain hn | ⟨-, hR⟩ := hM
  · omega
  have hw := hR.wd
  have hq := hR.pr p0 p1
  simp (disch := first | omega | assumption) only [Option.bind_some, bn2_some, ii_lit, ii_neg, ii_add, ii_sub, ii_mul, ii_le, ii_lt, ii_eq, ii_ite, ii_or, ii_and, ii_bit, ii_rem, ii_div, b0_, b1_, b2_, b3_, true_and, and_true, u1_eq, u1_ne, u2_eq, u2_nk, u2_ni, uP_eq, uP_ne, gk1, gk2, gk3, gk4, gk10, gk11, gk12, gk13, gk14, gk15, gk17, gkr0, gkr7, gkr8, gkr9, gkr16, gkr18, gkr19, gkr5, gkr6, ok0, ok1, ok2, ok3, gl2_0, gl2_1, gl2_2, gl3_0, gl3_1, gl3_2, gm0, gm2, gm3, gm4, gm5, gm6, gm7, gm8, gm9, gm10, gm11, gm13, gm14, gm22, gm23, gm26, gm27, gm28, gm29, gm31, gm32, gm33, gm36, gm37, gm39, gm40, gm41, gm1, gm12, gm15, gm16, gm17, gm18, gm19, gm20, gm21, gm24, gm25, gm30, gm34, gm35, gm38, rk0, sk0, rk9, sk9, rk16, sk16, rk18, sk18, rk19, sk19, rm1, sm1, rm12, sm12, rm15, sm15, rm16, sm16, rm17, sm17, rm18, sm18, rm19, sm19, rm20, sm20, rm21, sm21, rm24, sm24, rm25, sm25, rm30, sm30, rm34, sm34, rm35, sm35, rm38, sm38, pk1, pk2, pk3, pk4, pk10, pk11, pk12, pk13, pk14, pk15, pk17, pkr5, pkr6, pm0, pm2, pm3, pm4, pm5, pm6, pm7, pm8, pm9, pm10, pm11, pm13, pz13_0, pz13_1, pm14, pz14_0, pz14_1, pm22, pm23, pm26, pm27, pm28, pm29, pm31, pm32, pm33, pm36, pm37, pm39, pm40, pm41, pl2_0, pl2_1, pl2_2, pl3_0, pl3_1, pl3_2]
  by_cases hc : 2 * a 19 p = a 15 0
  · rw [if_pos hc, if_pos hc]
    exact ⟨fun _ => MO.ref .., fun h => absurd h (by decide)⟩
  rw [if_neg hc, if_neg hc]
  refine ⟨fun h => absurd rfl h, fun _ => ?_⟩
  obtain ⟨a1, g1, g2, g3⟩ := m_note x F P A (fo f 0) l a b hu (show fo f 0 22 = u from h22)
  have e15 := g2 15 (by omega)
  have e19 := g2 19 (by omega)
  refine MA.mk a1 (u2 a1 19 p (a 15 0 - a 19 p)) g2 g3 (fun j hj => u2_nk _ _ _ hj) (fun t t0 t1 => ?_) ?_
  · show (if t = p then _ else a1 19 t) = (if t = p then _ else a 19 t)
    rw [e19]
  · rw [g1]
    simp (disch := first | omega | assumption) only [Option.bind_some, bn2_some, ii_lit, ii_neg, ii_add, ii_sub, ii_mul, ii_le, ii_lt, ii_eq, ii_ite, ii_or, ii_and, ii_bit, ii_rem, ii_div, b0_, b1_, b2_, b3_, true_and, and_true, u1_eq, u1_ne, u2_eq, u2_nk, u2_ni, uP_eq, uP_ne, gk1, gk2, gk3, gk4, gk10, gk11, gk12, gk13, gk14, gk15, gk17, gkr0, gkr7, gkr8, gkr9, gkr16, gkr18, gkr19, gkr5, gkr6, ok0, ok1, ok2, ok3, gl2_0, gl2_1, gl2_2, gl3_0, gl3_1, gl3_2, gm0, gm2, gm3, gm4, gm5, gm6, gm7, gm8, gm9, gm10, gm11, gm13, gm14, gm22, gm23, gm26, gm27, gm28, gm29, gm31, gm32, gm33, gm36, gm37, gm39, gm40, gm41, gm1, gm12, gm15, gm16, gm17, gm18, gm19, gm20, gm21, gm24, gm25, gm30, gm34, gm35, gm38, rk0, sk0, rk9, sk9, rk16, sk16, rk18, sk18, rk19, sk19, rm1, sm1, rm12, sm12, rm15, sm15, rm16, sm16, rm17, sm17, rm18, sm18, rm19, sm19, rm20, sm20, rm21, sm21, rm24, sm24, rm25, sm25, rm30, sm30, rm34, sm34, rm35, sm35, rm38, sm38, pk1, pk2, pk3, pk4, pk10, pk11, pk12, pk13, pk14, pk15, pk17, pkr5, pkr6, pm0, pm2, pm3, pm4, pm5, pm6, pm7, pm8, pm9, pm10, pm11, pm13, pz13_0, pz13_1, pm14, pz14_0, pz14_1, pm22, pm23, pm26, pm27, pm28, pm29, pm31, pm32, pm33, pm36, pm37, pm39, pm40, pm41, pl2_0, pl2_1, pl2_2, pl3_0, pl3_1, pl3_2, e15, e19]
def w_step (h : Int) (ρ σ : Int → Int) (p s : Int) : Int := if (h = 1 ∧ 0 ≤ p ∧ p < ρ 2) then (if 0 ≤ s ∧ s ≤ 20 then (if σ (5 + p) = s then 5 else 0) else 2) else 1
theorem MO.r0 (x : Nat) (F : Nat → Int) (P : Nat → Option Nat) (A : Nat → Int → Int) (f l : Nat → Int) (a : Nat → Int → Int) (b : fk_M) (w : Int) : MO x F P A f l a b 0 w (some (ii 0, hp x F P A (fo f w) l a b)) := MO.of rfl
theorem m_step (x : Nat) (F : Nat → Int) (P : Nat → Option Nat) (A : Nat → Int → Int) (f l : Nat → Int) (a : Nat → Int → Int) (b : fk_M) {u : Nat} (hu : u ≤ 16) (h22 : f 22 = u) {p s : Int} (hp0 : rg p) (hs : rg s) (hM : Hm f a) : (w_step (f 14) (a 15) (a 19) p s ≠ 0 → MO x F P A f l a b 0 (w_step (f 14) (a 15) (a 19) p s) (f_X2_step (some (x + 8)) (ii p) (ii s) (hp x F P A f l a b))) ∧ (w_step (f 14) (a 15) (a 19) p s = 0 → MA x F P A f l a b u 1 (su1 (a 19) (5 + p) s) (f_X2_step (some (x + 8)) (ii p) (ii s) (hp x F P A f l a b))) := by
  unfold f_X2_step w_step
  have hM' : Hm (fo f 0) a := hM
  have hi : f_X2_in (ii s) (ii 0) (ii 20) (hp x F P A (fo f 0) l a b) = some (ii (if 0 ≤ s ∧ s ≤ 20 then 1 else 0)) := m_in _ (lo := 0) (hi := 20) hs (by omega) (by omega)
  simp (disch := first | omega | assumption) only [Option.bind_some, bn2_some, ii_lit, ii_neg, ii_add, ii_sub, ii_mul, ii_le, ii_lt, ii_eq, ii_ite, ii_or, ii_and, ii_bit, ii_rem, ii_div, b0_, b1_, b2_, b3_, true_and, and_true, u1_eq, u1_ne, u2_eq, u2_nk, u2_ni, uP_eq, uP_ne, gk1, gk2, gk3, gk4, gk10, gk11, gk12, gk13, gk14, gk15, gk17, gkr0, gkr7, gkr8, gkr9, gkr16, gkr18, gkr19, gkr5, gkr6, ok0, ok1, ok2, ok3, gl2_0, gl2_1, gl2_2, gl3_0, gl3_1, gl3_2, gm0, gm2, gm3, gm4, gm5, gm6, gm7, gm8, gm9, gm10, gm11, gm13, gm14, gm22, gm23, gm26, gm27, gm28, gm29, gm31, gm32, gm33, gm36, gm37, gm39, gm40, gm41, gm1, gm12, gm15, gm16, gm17, gm18, gm19, gm20, gm21, gm24, gm25, gm30, gm34, gm35, gm38, rk0, sk0, rk9, sk9, rk16, sk16, rk18, sk18, rk19, sk19, rm1, sm1, rm12, sm12, rm15, sm15, rm16, sm16, rm17, sm17, rm18, sm18, rm19, sm19, rm20, sm20, rm21, sm21, rm24, sm24, rm25, sm25, rm30, sm30, rm34, sm34, rm35, sm35, rm38, sm38, pk1, pk2, pk3, pk4, pk10, pk11, pk12, pk13, pk14, pk15, pk17, pkr5, pkr6, pm0, pm2, pm3, pm4, pm5, pm6, pm7, pm8, pm9, pm10, pm11, pm13, pz13_0, pz13_1, pm14, pz14_0, pz14_1, pm22, pm23, pm26, pm27, pm28, pm29, pm31, pm32, pm33, pm36, pm37, pm39, pm40, pm41, pl2_0, pl2_1, pl2_2, pl3_0, pl3_1, pl3_2, m_good, m_isPair, m_isNot, hi, u1_u1, true_or, if_true]
  by_cases h0 : (f 14 = 1 ∧ 0 ≤ p ∧ p < a 15 2)
  rotate_left
  · rw [if_pos h0, if_neg h0]
    exact ⟨fun _ => MO.r0 .., fun h => absurd h (by decide)⟩
  rw [if_neg (Decidable.not_not.mpr h0), if_pos h0]
  obtain ⟨h1, p0, p1⟩ := h0
  obtain hn | ⟨-, hR⟩ := hM
  · omega
  have hw := hR.wd
  have hq := hR.pr p0 p1
  by_cases hc0 : 0 ≤ s ∧ s ≤ 20
  rotate_left
  · rw [if_pos hc0, if_neg hc0]
    exact ⟨fun _ => MO.r0 .., fun h => absurd h (by decide)⟩
  rw [if_neg (Decidable.not_not.mpr hc0), if_pos hc0]
  simp (disch := first | omega | assumption) only [Option.bind_some, bn2_some, ii_lit, ii_neg, ii_add, ii_sub, ii_mul, ii_le, ii_lt, ii_eq, ii_ite, ii_or, ii_and, ii_bit, ii_rem, ii_div, b0_, b1_, b2_, b3_, true_and, and_true, u1_eq, u1_ne, u2_eq, u2_nk, u2_ni, uP_eq, uP_ne, gk1, gk2, gk3, gk4, gk10, gk11, gk12, gk13, gk14, gk15, gk17, gkr0, gkr7, gkr8, gkr9, gkr16, gkr18, gkr19, gkr5, gkr6, ok0, ok1, ok2, ok3, gl2_0, gl2_1, gl2_2, gl3_0, gl3_1, gl3_2, gm0, gm2, gm3, gm4, gm5, gm6, gm7, gm8, gm9, gm10, gm11, gm13, gm14, gm22, gm23, gm26, gm27, gm28, gm29, gm31, gm32, gm33, gm36, gm37, gm39, gm40, gm41, gm1, gm12, gm15, gm16, gm17, gm18, gm19, gm20, gm21, gm24, gm25, gm30, gm34, gm35, gm38, rk0, sk0, rk9, sk9, rk16, sk16, rk18, sk18, rk19, sk19, rm1, sm1, rm12, sm12, rm15, sm15, rm16, sm16, rm17, sm17, rm18, sm18, rm19, sm19, rm20, sm20, rm21, sm21, rm24, sm24, rm25, sm25, rm30, sm30, rm34, sm34, rm35, sm35, rm38, sm38, pk1, pk2, pk3, pk4, pk10, pk11, pk12, pk13, pk14, pk15, pk17, pkr5, pkr6, pm0, pm2, pm3, pm4, pm5, pm6, pm7, pm8, pm9, pm10, pm11, pm13, pz13_0, pz13_1, pm14, pz14_0, pz14_1, pm22, pm23, pm26, pm27, pm28, pm29, pm31, pm32, pm33, pm36, pm37, pm39, pm40, pm41, pl2_0, pl2_1, pl2_2, pl3_0, pl3_1, pl3_2]
  by_cases hc : a 19 (5 + p) = s
  · rw [if_pos hc, if_pos hc]
    exact ⟨fun _ => MO.r0 .., fun h => absurd h (by decide)⟩
  rw [if_neg hc, if_neg hc]
  refine ⟨fun h => absurd rfl h, fun _ => ?_⟩
  obtain ⟨a1, g1, g2, g3⟩ := m_note x F P A (fo f 0) l a b hu (show fo f 0 22 = u from h22)
  have e19 := g2 19 (by omega)
  refine MA.mk a1 (u2 a1 19 (5 + p) s) g2 g3 (fun j hj => u2_nk _ _ _ hj) (fun t t0 t1 => ?_) ?_
  · show (if t = 5 + p then _ else a1 19 t) = (if t = 5 + p then _ else a 19 t)
    rw [e19]
  · rw [g1]
    simp (disch := first | omega | assumption) only [Option.bind_some, bn2_some, ii_lit, ii_neg, ii_add, ii_sub, ii_mul, ii_le, ii_lt, ii_eq, ii_ite, ii_or, ii_and, ii_bit, ii_rem, ii_div, b0_, b1_, b2_, b3_, true_and, and_true, u1_eq, u1_ne, u2_eq, u2_nk, u2_ni, uP_eq, uP_ne, gk1, gk2, gk3, gk4, gk10, gk11, gk12, gk13, gk14, gk15, gk17, gkr0, gkr7, gkr8, gkr9, gkr16, gkr18, gkr19, gkr5, gkr6, ok0, ok1, ok2, ok3, gl2_0, gl2_1, gl2_2, gl3_0, gl3_1, gl3_2, gm0, gm2, gm3, gm4, gm5, gm6, gm7, gm8, gm9, gm10, gm11, gm13, gm14, gm22, gm23, gm26, gm27, gm28, gm29, gm31, gm32, gm33, gm36, gm37, gm39, gm40, gm41, gm1, gm12, gm15, gm16, gm17, gm18, gm19, gm20, gm21, gm24, gm25, gm30, gm34, gm35, gm38, rk0, sk0, rk9, sk9, rk16, sk16, rk18, sk18, rk19, sk19, rm1, sm1, rm12, sm12, rm15, sm15, rm16, sm16, rm17, sm17, rm18, sm18, rm19, sm19, rm20, sm20, rm21, sm21, rm24, sm24, rm25, sm25, rm30, sm30, rm34, sm34, rm35, sm35, rm38, sm38, pk1, pk2, pk3, pk4, pk10, pk11, pk12, pk13, pk14, pk15, pk17, pkr5, pkr6, pm0, pm2, pm3, pm4, pm5, pm6, pm7, pm8, pm9, pm10, pm11, pm13, pz13_0, pz13_1, pm14, pz14_0, pz14_1, pm22, pm23, pm26, pm27, pm28, pm29, pm31, pm32, pm33, pm36, pm37, pm39, pm40, pm41, pl2_0, pl2_1, pl2_2, pl3_0, pl3_1, pl3_2, e19]
def w_pay (h : Int) (ρ σ : Int → Int) (p q m : Int) : Int := if wy ((h = 1 ∧ 0 ≤ p ∧ p < ρ 2) ∧ (h = 1 ∧ 0 ≤ q ∧ q < ρ 2) ∧ p ≠ q) (1 ≤ m ∧ m ≤ 99) = 0 then (if m ≤ σ (10 + 5 * p + q) then 0 else 5) else wy ((h = 1 ∧ 0 ≤ p ∧ p < ρ 2) ∧ (h = 1 ∧ 0 ≤ q ∧ q < ρ 2) ∧ p ≠ q) (1 ≤ m ∧ m ≤ 99)
theorem m_pay (x : Nat) (F : Nat → Int) (P : Nat → Option Nat) (A : Nat → Int → Int) (f l : Nat → Int) (a : Nat → Int → Int) (b : fk_M) {u : Nat} (hu : u ≤ 16) (h22 : f 22 = u) {p q m : Int} (hp0 : rg p) (hq0 : rg q) (hm : rg m) (hM : Hm f a) : (w_pay (f 14) (a 15) (a 19) p q m ≠ 0 → MO x F P A f l a b (-1) (w_pay (f 14) (a 15) (a 19) p q m) (f_X2_pay (some (x + 8)) (ii p) (ii q) (ii m) (hp x F P A f l a b))) ∧ (w_pay (f 14) (a 15) (a 19) p q m = 0 → MA x F P A f l a b u (a 19 (10 + 5 * p + q) - m) (su1 (a 19) (10 + 5 * p + q) (a 19 (10 + 5 * p + q) - m)) (f_X2_pay (some (x + 8)) (ii p) (ii q) (ii m) (hp x F P A f l a b))) := by
  unfold f_X2_pay w_pay f_X2_pay_J41
  have hM' : Hm (fo f 0) a := hM
  have hy := wy_rg ((f 14 = 1 ∧ 0 ≤ p ∧ p < a 15 2) ∧ (f 14 = 1 ∧ 0 ≤ q ∧ q < a 15 2) ∧ p ≠ q) (1 ≤ m ∧ m ≤ 99)
  have hi : f_X2_in (ii m) (ii 1) (ii 99) (hp x F P A (fo f 0) l a b) = some (ii (if 1 ≤ m ∧ m ≤ 99 then 1 else 0)) := m_in _ (lo := 1) (hi := 99) hm (by omega) (by omega)
  have ew : f_X2_why (some (x + 8)) (ii (if (f 14 = 1 ∧ 0 ≤ p ∧ p < a 15 2) ∧ (f 14 = 1 ∧ 0 ≤ q ∧ q < a 15 2) ∧ p ≠ q then 1 else 0)) (ii (if 1 ≤ m ∧ m ≤ 99 then 1 else 0)) (hp x F P A (fo f 0) l a b) = some (ii (wy ((f 14 = 1 ∧ 0 ≤ p ∧ p < a 15 2) ∧ (f 14 = 1 ∧ 0 ≤ q ∧ q < a 15 2) ∧ p ≠ q) (1 ≤ m ∧ m ≤ 99))) := by
    rw [m_why _ _ (by (repeat' split) <;> omega) (by (repeat' split) <;> omega)]
    simp only [b1_]
  simp (disch := first | omega | assumption) only [Option.bind_some, bn2_some, ii_lit, ii_neg, ii_add, ii_sub, ii_mul, ii_le, ii_lt, ii_eq, ii_ite, ii_or, ii_and, ii_bit, ii_rem, ii_div, b0_, b1_, b2_, b3_, true_and, and_true, u1_eq, u1_ne, u2_eq, u2_nk, u2_ni, uP_eq, uP_ne, gk1, gk2, gk3, gk4, gk10, gk11, gk12, gk13, gk14, gk15, gk17, gkr0, gkr7, gkr8, gkr9, gkr16, gkr18, gkr19, gkr5, gkr6, ok0, ok1, ok2, ok3, gl2_0, gl2_1, gl2_2, gl3_0, gl3_1, gl3_2, gm0, gm2, gm3, gm4, gm5, gm6, gm7, gm8, gm9, gm10, gm11, gm13, gm14, gm22, gm23, gm26, gm27, gm28, gm29, gm31, gm32, gm33, gm36, gm37, gm39, gm40, gm41, gm1, gm12, gm15, gm16, gm17, gm18, gm19, gm20, gm21, gm24, gm25, gm30, gm34, gm35, gm38, rk0, sk0, rk9, sk9, rk16, sk16, rk18, sk18, rk19, sk19, rm1, sm1, rm12, sm12, rm15, sm15, rm16, sm16, rm17, sm17, rm18, sm18, rm19, sm19, rm20, sm20, rm21, sm21, rm24, sm24, rm25, sm25, rm30, sm30, rm34, sm34, rm35, sm35, rm38, sm38, pk1, pk2, pk3, pk4, pk10, pk11, pk12, pk13, pk14, pk15, pk17, pkr5, pkr6, pm0, pm2, pm3, pm4, pm5, pm6, pm7, pm8, pm9, pm10, pm11, pm13, pz13_0, pz13_1, pm14, pz14_0, pz14_1, pm22, pm23, pm26, pm27, pm28, pm29, pm31, pm32, pm33, pm36, pm37, pm39, pm40, pm41, pl2_0, pl2_1, pl2_2, pl3_0, pl3_1, pl3_2, m_good, m_areTwo, hi, m_no, u1_u1, ew]
  by_cases h0 : wy ((f 14 = 1 ∧ 0 ≤ p ∧ p < a 15 2) ∧ (f 14 = 1 ∧ 0 ≤ q ∧ q < a 15 2) ∧ p ≠ q) (1 ≤ m ∧ m ≤ 99) = 0
  rotate_left
  · rw [if_neg h0, if_neg h0, if_neg h0]
    exact ⟨fun _ => MO.ref .., fun h => absurd h h0⟩
  obtain ⟨⟨⟨h1, p0, p1⟩, ⟨-, q0, q1⟩, hpq⟩, hm1, hm2⟩ := wy_0.mp h0
  obtain hn | ⟨-, hR⟩ := hM
  · omega
  have hw := hR.wd
  have hd := hR.ds p0 p1 q0 q1
  rw [if_pos h0, if_pos h0, h0]
  simp (disch := first | omega | assumption) only [Option.bind_some, bn2_some, ii_lit, ii_neg, ii_add, ii_sub, ii_mul, ii_le, ii_lt, ii_eq, ii_ite, ii_or, ii_and, ii_bit, ii_rem, ii_div, b0_, b1_, b2_, b3_, true_and, and_true, u1_eq, u1_ne, u2_eq, u2_nk, u2_ni, uP_eq, uP_ne, gk1, gk2, gk3, gk4, gk10, gk11, gk12, gk13, gk14, gk15, gk17, gkr0, gkr7, gkr8, gkr9, gkr16, gkr18, gkr19, gkr5, gkr6, ok0, ok1, ok2, ok3, gl2_0, gl2_1, gl2_2, gl3_0, gl3_1, gl3_2, gm0, gm2, gm3, gm4, gm5, gm6, gm7, gm8, gm9, gm10, gm11, gm13, gm14, gm22, gm23, gm26, gm27, gm28, gm29, gm31, gm32, gm33, gm36, gm37, gm39, gm40, gm41, gm1, gm12, gm15, gm16, gm17, gm18, gm19, gm20, gm21, gm24, gm25, gm30, gm34, gm35, gm38, rk0, sk0, rk9, sk9, rk16, sk16, rk18, sk18, rk19, sk19, rm1, sm1, rm12, sm12, rm15, sm15, rm16, sm16, rm17, sm17, rm18, sm18, rm19, sm19, rm20, sm20, rm21, sm21, rm24, sm24, rm25, sm25, rm30, sm30, rm34, sm34, rm35, sm35, rm38, sm38, pk1, pk2, pk3, pk4, pk10, pk11, pk12, pk13, pk14, pk15, pk17, pkr5, pkr6, pm0, pm2, pm3, pm4, pm5, pm6, pm7, pm8, pm9, pm10, pm11, pm13, pz13_0, pz13_1, pm14, pz14_0, pz14_1, pm22, pm23, pm26, pm27, pm28, pm29, pm31, pm32, pm33, pm36, pm37, pm39, pm40, pm41, pl2_0, pl2_1, pl2_2, pl3_0, pl3_1, pl3_2, m_debtOf]
  by_cases hc : m ≤ a 19 (10 + 5 * p + q)
  rotate_left
  · rw [if_neg hc, if_neg (by decide)]
    exact ⟨fun _ => MO.ref .., fun h => absurd h (by decide)⟩
  rw [if_pos hc, if_pos rfl]
  refine ⟨fun h => absurd rfl h, fun _ => ?_⟩
  obtain ⟨a1, g1, g2, g3⟩ := m_note x F P A (fo f 0) l a b hu (show fo f 0 22 = u from h22)
  have e19 := g2 19 (by omega)
  refine MA.mk a1 (u2 a1 19 (10 + 5 * p + q) (a 19 (10 + 5 * p + q) - m)) g2 g3 (fun j hj => u2_nk _ _ _ hj) (fun t t0 t1 => ?_) ?_
  · show (if t = 10 + 5 * p + q then _ else a1 19 t) = (if t = 10 + 5 * p + q then _ else a 19 t)
    rw [e19]
  · rw [g1]
    simp (disch := first | omega | assumption) only [Option.bind_some, bn2_some, ii_lit, ii_neg, ii_add, ii_sub, ii_mul, ii_le, ii_lt, ii_eq, ii_ite, ii_or, ii_and, ii_bit, ii_rem, ii_div, b0_, b1_, b2_, b3_, true_and, and_true, u1_eq, u1_ne, u2_eq, u2_nk, u2_ni, uP_eq, uP_ne, gk1, gk2, gk3, gk4, gk10, gk11, gk12, gk13, gk14, gk15, gk17, gkr0, gkr7, gkr8, gkr9, gkr16, gkr18, gkr19, gkr5, gkr6, ok0, ok1, ok2, ok3, gl2_0, gl2_1, gl2_2, gl3_0, gl3_1, gl3_2, gm0, gm2, gm3, gm4, gm5, gm6, gm7, gm8, gm9, gm10, gm11, gm13, gm14, gm22, gm23, gm26, gm27, gm28, gm29, gm31, gm32, gm33, gm36, gm37, gm39, gm40, gm41, gm1, gm12, gm15, gm16, gm17, gm18, gm19, gm20, gm21, gm24, gm25, gm30, gm34, gm35, gm38, rk0, sk0, rk9, sk9, rk16, sk16, rk18, sk18, rk19, sk19, rm1, sm1, rm12, sm12, rm15, sm15, rm16, sm16, rm17, sm17, rm18, sm18, rm19, sm19, rm20, sm20, rm21, sm21, rm24, sm24, rm25, sm25, rm30, sm30, rm34, sm34, rm35, sm35, rm38, sm38, pk1, pk2, pk3, pk4, pk10, pk11, pk12, pk13, pk14, pk15, pk17, pkr5, pkr6, pm0, pm2, pm3, pm4, pm5, pm6, pm7, pm8, pm9, pm10, pm11, pm13, pz13_0, pz13_1, pm14, pz14_0, pz14_1, pm22, pm23, pm26, pm27, pm28, pm29, pm31, pm32, pm33, pm36, pm37, pm39, pm40, pm41, pl2_0, pl2_1, pl2_2, pl3_0, pl3_1, pl3_2, e19, m_debtOf]
/-! a season goes by -/
def sea (ρ σ : Int → Int) : Int → Int := fun t => if 0 ≤ t ∧ t < ρ 2 then bh ρ t (σ t) (σ (5 + t)) (ρ (13 + t)) (σ 35 + 1) 0 else if t = 35 then σ 35 + 1 else σ t
theorem sea_Rg {ρ τ σ : Int → Int} (h : Rg ρ τ σ) (h9 : σ 35 ≠ 999) : Rg ρ τ (sea ρ σ) := by
  have hw := h.wd
  have h' := h
  obtain ⟨h1, h2, h3, h4, h5, h6, h7, h8, h9', h10, h11, h12, h13⟩ := h
  have e35 : sea ρ σ 35 = σ 35 + 1 := by
    unfold sea
    rw [if_neg (by omega), if_pos rfl]
  refine ⟨h1, h2, h3, h4, h5, h6, h7, fun p p0 p1 => ?_, fun p q p0 p1 q0 q1 => ?_, h10, h11, h12, by rw [e35]; omega⟩
  · have hq := h8 p p0 p1
    have ep : sea ρ σ p = bh ρ p (σ p) (σ (5 + p)) (ρ (13 + p)) (σ 35 + 1) 0 := by
      unfold sea
      rw [if_pos ⟨p0, p1⟩]
    have e5 : sea ρ σ (5 + p) = σ (5 + p) := by
      unfold sea
      rw [if_neg (by omega), if_neg (by omega)]
    have hb := bh_rg (ρ := ρ) (p := p) (fig := σ p) (step := σ (5 + p)) (every := ρ (13 + p)) (season := σ 35 + 1) (dumb := 0) (by omega) (by omega) (by omega)
    rw [ep, e5]
    omega
  · have e5 : sea ρ σ (10 + 5 * p + q) = σ (10 + 5 * p + q) := by
      unfold sea
      rw [if_neg (by omega), if_neg (by omega)]
    rw [e5]
    exact h9' p q p0 p1 q0 q1
def w_season (h : Int) (σ : Int → Int) : Int := if h = 1 then (if σ 35 = 999 then 3 else 0) else 1
theorem mst_cg {ρ σ σ' : Int → Int} (hn : ρ 2 ≤ 5) (h : ∀ t, 0 ≤ t → t < 36 → σ' t = σ t) : mst ρ σ' 0 = mst ρ σ 0 := by
  unfold mst
  refine itr_cg _ _ _ (fun u p p0 p1 => ?_)
  have : ts ρ σ' p (0 : Int).toNat = ts ρ σ p (0 : Int).toNat := h p p0 (by omega)
  rw [this]
theorem m_season (x : Nat) (F : Nat → Int) (P : Nat → Option Nat) (A : Nat → Int → Int) (f l : Nat → Int) (a : Nat → Int → Int) (b : fk_M) {u : Nat} (hu : u ≤ 16) (h22 : f 22 = u) (hM : Hm f a) : (w_season (f 14) (a 19) ≠ 0 → MO x F P A f l a b (-1) (w_season (f 14) (a 19)) (f_X2_season (some (x + 8)) (hp x F P A f l a b))) ∧ (w_season (f 14) (a 19) = 0 → MA x F P A f l a b u (mst (a 15) (sea (a 15) (a 19)) 0).toInt (sea (a 15) (a 19)) (f_X2_season (some (x + 8)) (hp x F P A f l a b))) := by
  unfold f_X2_season w_season
  rw [ok1, Option.bind_some, m_good, Option.bind_some, gm14, Option.bind_some, show fo f 0 14 = f 14 from rfl]
  obtain h | ⟨h, hR⟩ := hM
  · rw [h, if_pos (show ii 0 = 0 from rfl), if_neg (by decide)]
    simp (disch := first | omega | assumption) only [Option.bind_some, bn2_some, ii_lit, ii_neg, ii_add, ii_sub, ii_mul, ii_le, ii_lt, ii_eq, ii_ite, ii_or, ii_and, ii_bit, ii_rem, ii_div, b0_, b1_, b2_, b3_, true_and, and_true, u1_eq, u1_ne, u2_eq, u2_nk, u2_ni, uP_eq, uP_ne, gk1, gk2, gk3, gk4, gk10, gk11, gk12, gk13, gk14, gk15, gk17, gkr0, gkr7, gkr8, gkr9, gkr16, gkr18, gkr19, gkr5, gkr6, ok0, ok1, ok2, ok3, gl2_0, gl2_1, gl2_2, gl3_0, gl3_1, gl3_2, gm0, gm2, gm3, gm4, gm5, gm6, gm7, gm8, gm9, gm10, gm11, gm13, gm14, gm22, gm23, gm26, gm27, gm28, gm29, gm31, gm32, gm33, gm36, gm37, gm39, gm40, gm41, gm1, gm12, gm15, gm16, gm17, gm18, gm19, gm20, gm21, gm24, gm25, gm30, gm34, gm35, gm38, rk0, sk0, rk9, sk9, rk16, sk16, rk18, sk18, rk19, sk19, rm1, sm1, rm12, sm12, rm15, sm15, rm16, sm16, rm17, sm17, rm18, sm18, rm19, sm19, rm20, sm20, rm21, sm21, rm24, sm24, rm25, sm25, rm30, sm30, rm34, sm34, rm35, sm35, rm38, sm38, pk1, pk2, pk3, pk4, pk10, pk11, pk12, pk13, pk14, pk15, pk17, pkr5, pkr6, pm0, pm2, pm3, pm4, pm5, pm6, pm7, pm8, pm9, pm10, pm11, pm13, pz13_0, pz13_1, pm14, pz14_0, pz14_1, pm22, pm23, pm26, pm27, pm28, pm29, pm31, pm32, pm33, pm36, pm37, pm39, pm40, pm41, pl2_0, pl2_1, pl2_2, pl3_0, pl3_1, pl3_2, m_no, u1_u1]
    exact ⟨fun _ => MO.ref .., fun h => absurd h (by decide)⟩
  have hw := hR.wd
  rw [h, if_neg (show ¬ ii 1 = 0 by decide), if_pos rfl]
  simp (disch := first | omega | assumption) only [Option.bind_some, bn2_some, ii_lit, ii_neg, ii_add, ii_sub, ii_mul, ii_le, ii_lt, ii_eq, ii_ite, ii_or, ii_and, ii_bit, ii_rem, ii_div, b0_, b1_, b2_, b3_, true_and, and_true, u1_eq, u1_ne, u2_eq, u2_nk, u2_ni, uP_eq, uP_ne, gk1, gk2, gk3, gk4, gk10, gk11, gk12, gk13, gk14, gk15, gk17, gkr0, gkr7, gkr8, gkr9, gkr16, gkr18, gkr19, gkr5, gkr6, ok0, ok1, ok2, ok3, gl2_0, gl2_1, gl2_2, gl3_0, gl3_1, gl3_2, gm0, gm2, gm3, gm4, gm5, gm6, gm7, gm8, gm9, gm10, gm11, gm13, gm14, gm22, gm23, gm26, gm27, gm28, gm29, gm31, gm32, gm33, gm36, gm37, gm39, gm40, gm41, gm1, gm12, gm15, gm16, gm17, gm18, gm19, gm20, gm21, gm24, gm25, gm30, gm34, gm35, gm38, rk0, sk0, rk9, sk9, rk16, sk16, rk18, sk18, rk19, sk19, rm1, sm1, rm12, sm12, rm15, sm15, rm16, sm16, rm17, sm17, rm18, sm18, rm19, sm19, rm20, sm20, rm21, sm21, rm24, sm24, rm25, sm25, rm30, sm30, rm34, sm34, rm35, sm35, rm38, sm38, pk1, pk2, pk3, pk4, pk10, pk11, pk12, pk13, pk14, pk15, pk17, pkr5, pkr6, pm0, pm2, pm3, pm4, pm5, pm6, pm7, pm8, pm9, pm10, pm11, pm13, pz13_0, pz13_1, pm14, pz14_0, pz14_1, pm22, pm23, pm26, pm27, pm28, pm29, pm31, pm32, pm33, pm36, pm37, pm39, pm40, pm41, pl2_0, pl2_1, pl2_2, pl3_0, pl3_1, pl3_2, m_no, u1_u1]
  by_cases h9 : a 19 35 = 999
  · rw [if_pos h9, if_pos h9]
    exact ⟨fun _ => MO.ref .., fun h => absurd h (by decide)⟩
  rw [if_neg h9, if_neg h9]
  refine ⟨fun h => absurd rfl h, fun _ => ?_⟩
  obtain ⟨a1, g1, g2, g3⟩ := m_note x F P A (fo f 0) l a b hu (show fo f 0 22 = u from h22)
  have e15 := g2 15 (by omega)
  have e17 := g2 17 (by omega)
  have e19 := g2 19 (by omega)
  have hL := loop_ex (fun N (_ : Unit) k (y : Nat → Int → Int) => f_X2_season_L53 (some (x + 8)) N (ii k) (hp x F P A (u1 (fo f 0) 22 (nu u)) l y b)) (fun u k => u) (fun _ y => some (mst (a 15) (sea (a 15) (a 19)) 0, hp x F P A (u1 (fo f 0) 22 (nu u)) l y b)) (fun _ k y => (∀ j, j ≠ 19 → y j = a1 j) ∧ ∀ t, y 19 t = if 0 ≤ t ∧ t < k then sea (a 15) (a 19) t else if t = 35 then a 19 35 + 1 else a 19 t) (lo := 0) (hi := a 15 2) ?_ ?_ (a 15 2).toNat fk_fuel () 0 (u2 a1 19 35 (a 19 35 + 1)) (by omega) (by omega) (by unfold fk_fuel; omega) ⟨fun j hj => u2_nk _ _ _ hj, fun t => ?_⟩
  · obtain ⟨y, k1, k2, k3⟩ := hL
    have ey : ∀ t, 0 ≤ t → t < 36 → y 19 t = sea (a 15) (a 19) t := fun t t0 t1 => by
      rw [k3]
      by_cases hc : 0 ≤ t ∧ t < a 15 2
      · rw [if_pos hc]
      · rw [if_neg hc]
        unfold sea
        rw [if_neg hc]
    refine MA.mk a1 y g2 g3 k2 ey ?_
    rw [g1, ← ii_pk (mst (a 15) (sea (a 15) (a 19)) 0) |>.1, ← k1]
    simp (disch := first | omega | assumption) only [Option.bind_some, bn2_some, ii_lit, ii_neg, ii_add, ii_sub, ii_mul, ii_le, ii_lt, ii_eq, ii_ite, ii_or, ii_and, ii_bit, ii_rem, ii_div, b0_, b1_, b2_, b3_, true_and, and_true, u1_eq, u1_ne, u2_eq, u2_nk, u2_ni, uP_eq, uP_ne, gk1, gk2, gk3, gk4, gk10, gk11, gk12, gk13, gk14, gk15, gk17, gkr0, gkr7, gkr8, gkr9, gkr16, gkr18, gkr19, gkr5, gkr6, ok0, ok1, ok2, ok3, gl2_0, gl2_1, gl2_2, gl3_0, gl3_1, gl3_2, gm0, gm2, gm3, gm4, gm5, gm6, gm7, gm8, gm9, gm10, gm11, gm13, gm14, gm22, gm23, gm26, gm27, gm28, gm29, gm31, gm32, gm33, gm36, gm37, gm39, gm40, gm41, gm1, gm12, gm15, gm16, gm17, gm18, gm19, gm20, gm21, gm24, gm25, gm30, gm34, gm35, gm38, rk0, sk0, rk9, sk9, rk16, sk16, rk18, sk18, rk19, sk19, rm1, sm1, rm12, sm12, rm15, sm15, rm16, sm16, rm17, sm17, rm18, sm18, rm19, sm19, rm20, sm20, rm21, sm21, rm24, sm24, rm25, sm25, rm30, sm30, rm34, sm34, rm35, sm35, rm38, sm38, pk1, pk2, pk3, pk4, pk10, pk11, pk12, pk13, pk14, pk15, pk17, pkr5, pkr6, pm0, pm2, pm3, pm4, pm5, pm6, pm7, pm8, pm9, pm10, pm11, pm13, pz13_0, pz13_1, pm14, pz14_0, pz14_1, pm22, pm23, pm26, pm27, pm28, pm29, pm31, pm32, pm33, pm36, pm37, pm39, pm40, pm41, pl2_0, pl2_1, pl2_2, pl3_0, pl3_1, pl3_2, e19]
  · rintro N - y ⟨y1, y2⟩
    have z15 : y 15 = a 15 := (y1 15 (by omega)).trans e15
    have z17 : y 17 = a 17 := (y1 17 (by omega)).trans e17
    have z19 : ∀ t, 0 ≤ t → t < 36 → y 19 t = sea (a 15) (a 19) t := fun t t0 t1 => by
      rw [y2]
      by_cases hc : 0 ≤ t ∧ t < a 15 2
      · rw [if_pos hc]
      · rw [if_neg hc]
        unfold sea
        rw [if_neg hc]
    have hR' : Rg (y 15) (y 17) (y 19) := by
      rw [z15, z17]
      exact (sea_Rg hR h9).cg z19
    have em := m_mastersIn x F P A (u1 (fo f 0) 22 (nu u)) l y b (n := 0) hR' (by omega) (by omega)
    rw [z15, mst_cg (by omega) z19] at em
    try dsimp only
    rw [f_X2_season_L53]
    simp (disch := first | omega | assumption) only [Option.bind_some, bn2_some, ii_lit, ii_neg, ii_add, ii_sub, ii_mul, ii_le, ii_lt, ii_eq, ii_ite, ii_or, ii_and, ii_bit, ii_rem, ii_div, b0_, b1_, b2_, b3_, true_and, and_true, u1_eq, u1_ne, u2_eq, u2_nk, u2_ni, uP_eq, uP_ne, gk1, gk2, gk3, gk4, gk10, gk11, gk12, gk13, gk14, gk15, gk17, gkr0, gkr7, gkr8, gkr9, gkr16, gkr18, gkr19, gkr5, gkr6, ok0, ok1, ok2, ok3, gl2_0, gl2_1, gl2_2, gl3_0, gl3_1, gl3_2, gm0, gm2, gm3, gm4, gm5, gm6, gm7, gm8, gm9, gm10, gm11, gm13, gm14, gm22, gm23, gm26, gm27, gm28, gm29, gm31, gm32, gm33, gm36, gm37, gm39, gm40, gm41, gm1, gm12, gm15, gm16, gm17, gm18, gm19, gm20, gm21, gm24, gm25, gm30, gm34, gm35, gm38, rk0, sk0, rk9, sk9, rk16, sk16, rk18, sk18, rk19, sk19, rm1, sm1, rm12, sm12, rm15, sm15, rm16, sm16, rm17, sm17, rm18, sm18, rm19, sm19, rm20, sm20, rm21, sm21, rm24, sm24, rm25, sm25, rm30, sm30, rm34, sm34, rm35, sm35, rm38, sm38, pk1, pk2, pk3, pk4, pk10, pk11, pk12, pk13, pk14, pk15, pk17, pkr5, pkr6, pm0, pm2, pm3, pm4, pm5, pm6, pm7, pm8, pm9, pm10, pm11, pm13, pz13_0, pz13_1, pm14, pz14_0, pz14_1, pm22, pm23, pm26, pm27, pm28, pm29, pm31, pm32, pm33, pm36, pm37, pm39, pm40, pm41, pl2_0, pl2_1, pl2_2, pl3_0, pl3_1, pl3_2, z15, em]
    rw [if_pos (by omega)]
  · rintro N - k y k1 k2 ⟨y1, y2⟩
    have z15 : y 15 = a 15 := (y1 15 (by omega)).trans e15
    have hq := hR.pr k1 k2
    have w0 : y 19 k = a 19 k := by rw [y2, if_neg (by omega), if_neg (by omega)]
    have w5 : y 19 (5 + k) = a 19 (5 + k) := by rw [y2, if_neg (by omega), if_neg (by omega)]
    have w35 : y 19 35 = a 19 35 + 1 := by rw [y2, if_neg (by omega), if_pos rfl]
    have hbh := m_behind x F P A (u1 (fo f 0) 22 (nu u)) l y b (p := k) (v := a 19 k) (s := a 19 (5 + k)) (e := a 15 (13 + k)) (g := a 19 35 + 1) (d := 0) k1 (by omega) (by rw [z15]; omega) (by rw [z15]; omega) (by omega) (by rw [z15]; omega) (by omega) (by omega) (by rw [z15]; omega) (by rw [z15]; omega) (by omega) (by omega) (by omega) (by omega) (by omega) (by omega)
    rw [z15] at hbh
    refine ⟨u2 y 19 k (bh (a 15) k (a 19 k) (a 19 (5 + k)) (a 15 (13 + k)) (a 19 35 + 1) 0), ⟨fun j hj => (u2_nk _ _ _ hj).trans (y1 j hj), fun t => ?_⟩, ?_⟩
    · by_cases ht : t = k
      · rw [ht, u2_eq, if_pos (by omega)]
        unfold sea
        rw [if_pos ⟨k1, k2⟩]
      · rw [u2_ni _ _ _ ht, y2]
        by_cases hc : 0 ≤ t ∧ t < k
        · rw [if_pos hc, if_pos (by omega)]
        · rw [if_neg hc, if_neg (show ¬ (0 ≤ t ∧ t < k + 1) by omega)]
    · try dsimp only
      rw [f_X2_season_L53]
      simp (disch := first | omega | assumption) only [Option.bind_some, bn2_some, ii_lit, ii_neg, ii_add, ii_sub, ii_mul, ii_le, ii_lt, ii_eq, ii_ite, ii_or, ii_and, ii_bit, ii_rem, ii_div, b0_, b1_, b2_, b3_, true_and, and_true, u1_eq, u1_ne, u2_eq, u2_nk, u2_ni, uP_eq, uP_ne, gk1, gk2, gk3, gk4, gk10, gk11, gk12, gk13, gk14, gk15, gk17, gkr0, gkr7, gkr8, gkr9, gkr16, gkr18, gkr19, gkr5, gkr6, ok0, ok1, ok2, ok3, gl2_0, gl2_1, gl2_2, gl3_0, gl3_1, gl3_2, gm0, gm2, gm3, gm4, gm5, gm6, gm7, gm8, gm9, gm10, gm11, gm13, gm14, gm22, gm23, gm26, gm27, gm28, gm29, gm31, gm32, gm33, gm36, gm37, gm39, gm40, gm41, gm1, gm12, gm15, gm16, gm17, gm18, gm19, gm20, gm21, gm24, gm25, gm30, gm34, gm35, gm38, rk0, sk0, rk9, sk9, rk16, sk16, rk18, sk18, rk19, sk19, rm1, sm1, rm12, sm12, rm15, sm15, rm16, sm16, rm17, sm17, rm18, sm18, rm19, sm19, rm20, sm20, rm21, sm21, rm24, sm24, rm25, sm25, rm30, sm30, rm34, sm34, rm35, sm35, rm38, sm38, pk1, pk2, pk3, pk4, pk10, pk11, pk12, pk13, pk14, pk15, pk17, pkr5, pkr6, pm0, pm2, pm3, pm4, pm5, pm6, pm7, pm8, pm9, pm10, pm11, pm13, pz13_0, pz13_1, pm14, pz14_0, pz14_1, pm22, pm23, pm26, pm27, pm28, pm29, pm31, pm32, pm33, pm36, pm37, pm39, pm40, pm41, pl2_0, pl2_1, pl2_2, pl3_0, pl3_1, pl3_2, z15, w0, w5, w35, hbh]
      rw [if_neg (by omega)]
  · rw [if_neg (by omega)]
    by_cases ht : t = 35
    · rw [ht, u2_eq, if_pos rfl]
    · rw [u2_ni _ _ _ ht, if_neg ht, e19]
