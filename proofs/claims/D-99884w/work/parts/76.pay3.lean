/-! PLAIN 22: payments: model and component -/
set_option maxRecDepth 100000
theorem m_netsOf (x : Nat) (F : Nat → Int) (P : Nat → Option Nat) (A : Nat → Int → Int) (f l : Nat → Int) (a : Nat → Int → Int) (b : fk_M) {s : Nat} (hR : Rg (a 15) (a 17) (a 19)) (hs : s < 32) : f_X2_netsOf (some (x + 8)) (ii s) (hp x F P A f l a b) = some (ii (sm (nt (a 15) (a 19)) (a 15 2).toNat s)) := by
  have hw := hR.wd
  unfold f_X2_netsOf sm
  rw [← itr_su]
  refine loop_i0 (fun N u k => f_X2_netsOf_L4 (some (x + 8)) (ii s) (hp x F P A f l a b) N (ii u) (ii k)) (fun u p => u + (if hb s p then nt (a 15) (a 19) p else 0)) (fun u => some (ii u)) (lo := 0) (hi := a 15 2) ?_ ?_ (a 15 2).toNat fk_fuel 0 0 (by omega) (by omega) (by unfold fk_fuel; omega)
  · intros
    try dsimp only
    rw [f_X2_netsOf_L4]
    simp (disch := first | omega | assumption) only [Option.bind_some, bn2_some, ii_lit, ii_neg, ii_add, ii_sub, ii_mul, ii_le, ii_lt, ii_eq, ii_ite, ii_or, ii_and, ii_bit, ii_rem, ii_div, b0_, b1_, b2_, b3_, true_and, and_true, u1_eq, u1_ne, u2_eq, u2_nk, u2_ni, uP_eq, uP_ne, gk1, gk2, gk3, gk4, gk10, gk11, gk12, gk13, gk14, gk15, gk17, gkr0, gkr7, gkr8, gkr9, gkr16, gkr18, gkr19, gkr5, gkr6, ok0, ok1, ok2, ok3, gl2_0, gl2_1, gl2_2, gl3_0, gl3_1, gl3_2, gm0, gm2, gm3, gm4, gm5, gm6, gm7, gm8, gm9, gm10, gm11, gm13, gm14, gm22, gm23, gm26, gm27, gm28, gm29, gm31, gm32, gm33, gm36, gm37, gm39, gm40, gm41, gm1, gm12, gm15, gm16, gm17, gm18, gm19, gm20, gm21, gm24, gm25, gm30, gm34, gm35, gm38, rk0, sk0, rk9, sk9, rk16, sk16, rk18, sk18, rk19, sk19, rm1, sm1, rm12, sm12, rm15, sm15, rm16, sm16, rm17, sm17, rm18, sm18, rm19, sm19, rm20, sm20, rm21, sm21, rm24, sm24, rm25, sm25, rm30, sm30, rm34, sm34, rm35, sm35, rm38, sm38, pk1, pk2, pk3, pk4, pk10, pk11, pk12, pk13, pk14, pk15, pk17, pkr5, pkr6, pm0, pm2, pm3, pm4, pm5, pm6, pm7, pm8, pm9, pm10, pm11, pm13, pz13_0, pz13_1, pm14, pz14_0, pz14_1, pm22, pm23, pm26, pm27, pm28, pm29, pm31, pm32, pm33, pm36, pm37, pm39, pm40, pm41, pl2_0, pl2_1, pl2_2, pl3_0, pl3_1, pl3_2]
    rw [if_pos (by omega)]
  · intro N u k k1 k2
    have e1 := m_netOf x F P A f l a b hR k1 k2
    have e2 := m_hasBit (hp x F P A f l a b) (s : Int) k
    try dsimp only
    rw [f_X2_netsOf_L4]
    unfold f_X2_netsOf_J32
    rw [e2]
    by_cases hc : hb (s : Int) k
    · rw [if_pos hc]
      simp (disch := first | omega | assumption) only [Option.bind_some, bn2_some, ii_lit, ii_neg, ii_add, ii_sub, ii_mul, ii_le, ii_lt, ii_eq, ii_ite, ii_or, ii_and, ii_bit, ii_rem, ii_div, b0_, b1_, b2_, b3_, true_and, and_true, u1_eq, u1_ne, u2_eq, u2_nk, u2_ni, uP_eq, uP_ne, gk1, gk2, gk3, gk4, gk10, gk11, gk12, gk13, gk14, gk15, gk17, gkr0, gkr7, gkr8, gkr9, gkr16, gkr18, gkr19, gkr5, gkr6, ok0, ok1, ok2, ok3, gl2_0, gl2_1, gl2_2, gl3_0, gl3_1, gl3_2, gm0, gm2, gm3, gm4, gm5, gm6, gm7, gm8, gm9, gm10, gm11, gm13, gm14, gm22, gm23, gm26, gm27, gm28, gm29, gm31, gm32, gm33, gm36, gm37, gm39, gm40, gm41, gm1, gm12, gm15, gm16, gm17, gm18, gm19, gm20, gm21, gm24, gm25, gm30, gm34, gm35, gm38, rk0, sk0, rk9, sk9, rk16, sk16, rk18, sk18, rk19, sk19, rm1, sm1, rm12, sm12, rm15, sm15, rm16, sm16, rm17, sm17, rm18, sm18, rm19, sm19, rm20, sm20, rm21, sm21, rm24, sm24, rm25, sm25, rm30, sm30, rm34, sm34, rm35, sm35, rm38, sm38, pk1, pk2, pk3, pk4, pk10, pk11, pk12, pk13, pk14, pk15, pk17, pkr5, pkr6, pm0, pm2, pm3, pm4, pm5, pm6, pm7, pm8, pm9, pm10, pm11, pm13, pz13_0, pz13_1, pm14, pz14_0, pz14_1, pm22, pm23, pm26, pm27, pm28, pm29, pm31, pm32, pm33, pm36, pm37, pm39, pm40, pm41, pl2_0, pl2_1, pl2_2, pl3_0, pl3_1, pl3_2, e1]
      rw [if_neg (by omega), if_neg (by omega), if_pos hc]
    · rw [if_neg hc]
      simp (disch := first | omega | assumption) only [Option.bind_some, bn2_some, ii_lit, ii_neg, ii_add, ii_sub, ii_mul, ii_le, ii_lt, ii_eq, ii_ite, ii_or, ii_and, ii_bit, ii_rem, ii_div, b0_, b1_, b2_, b3_, true_and, and_true, u1_eq, u1_ne, u2_eq, u2_nk, u2_ni, uP_eq, uP_ne, gk1, gk2, gk3, gk4, gk10, gk11, gk12, gk13, gk14, gk15, gk17, gkr0, gkr7, gkr8, gkr9, gkr16, gkr18, gkr19, gkr5, gkr6, ok0, ok1, ok2, ok3, gl2_0, gl2_1, gl2_2, gl3_0, gl3_1, gl3_2, gm0, gm2, gm3, gm4, gm5, gm6, gm7, gm8, gm9, gm10, gm11, gm13, gm14, gm22, gm23, gm26, gm27, gm28, gm29, gm31, gm32, gm33, gm36, gm37, gm39, gm40, gm41, gm1, gm12, gm15, gm16, gm17, gm18, gm19, gm20, gm21, gm24, gm25, gm30, gm34, gm35, gm38, rk0, sk0, rk9, sk9, rk16, sk16, rk18, sk18, rk19, sk19, rm1, sm1, rm12, sm12, rm15, sm15, rm16, sm16, rm17, sm17, rm18, sm18, rm19, sm19, rm20, sm20, rm21, sm21, rm24, sm24, rm25, sm25, rm30, sm30, rm34, sm34, rm35, sm35, rm38, sm38, pk1, pk2, pk3, pk4, pk10, pk11, pk12, pk13, pk14, pk15, pk17, pkr5, pkr6, pm0, pm2, pm3, pm4, pm5, pm6, pm7, pm8, pm9, pm10, pm11, pm13, pz13_0, pz13_1, pm14, pz14_0, pz14_1, pm22, pm23, pm26, pm27, pm28, pm29, pm31, pm32, pm33, pm36, pm37, pm39, pm40, pm41, pl2_0, pl2_1, pl2_2, pl3_0, pl3_1, pl3_2, e1]
      rw [if_neg (by omega), if_pos trivial, if_neg hc]
theorem m_groups (x : Nat) (F : Nat → Int) (P : Nat → Option Nat) (A : Nat → Int → Int) (f l : Nat → Int) (a : Nat → Int → Int) (b : fk_M) (hR : Rg (a 15) (a 17) (a 19)) : ∀ (D s : Nat), bc s < D → s < 2 ^ (a 15 2).toNat → sm (nt (a 15) (a 19)) (a 15 2).toNat s = 0 → f_X2_groupsOf D (some (x + 8)) (ii s) (hp x F P A f l a b) = some (ii (Qf (nt (a 15) (a 19)) (a 15 2).toNat s)) := by
  have hw := hR.wd
  have hn : (a 15 2).toNat ≤ 5 := by omega
  intro D
  induction D with
  | zero => intro s h; omega
  | succ D ih =>
    intro s hb1 hs hz
    have hs32 := p2_le hn hs
    rw [f_X2_groupsOf]
    by_cases h0 : s = 0
    · subst h0
      rw [if_pos (show ii ((0 : Nat) : Int) = 0 from rfl)]
      have h1 := Q_le (nt (a 15) (a 19)) hn 0 (by omega)
      have h2 := Q_ge (nt (a 15) (a 19)) hn (show 0 < 32 by omega)
      rw [show Qf (nt (a 15) (a 19)) (a 15 2).toNat 0 = 0 by omega]
      rfl
    rw [if_neg (by rw [show (0 : Int32) = ii 0 from rfl, ii_eq (by omega) (by omega)]; omega), ← Q_loop (nt (a 15) (a 19)) hn hs h0 hz]
    refine (loop_it (fun N u k => f_X2_groupsOf_L10 (f_X2_groupsOf D) (some (x + 8)) (ii s) (hp x F P A f l a b) N (ii u) (ii k)) (fun (u t : Int) => if sb t.toNat s ∧ sm (nt (a 15) (a 19)) (a 15 2).toNat t.toNat = 0 then max u (1 + Qf (nt (a 15) (a 19)) (a 15 2).toNat (df s t.toNat)) else u) (fun u => some (ii u)) (fun u _ => 1 ≤ u ∧ u ≤ 100) (lo := 1) (hi := s) ?_ ?_ (s - 1) fk_fuel 1 1 (by omega) (by omega) (by unfold fk_fuel; omega) (by omega)).1
    · intro N u hu
      try dsimp only
      rw [f_X2_groupsOf_L10, if_pos (by rw [ii_le (by omega) (by omega)]; omega)]
    · intro N u t t1 t2 hu
      obtain ⟨k, rfl⟩ : ∃ k : Nat, t = k := ⟨t.toNat, by omega⟩
      have ek : ((k : Int)).toNat = k := rfl
      rw [ek]
      have hk32 : k < 32 := by omega
      have e1 : (ii (k : Int) &&& (ii (s : Int) ^^^ (-1)) = 0) = sb k s := z_sub ⟨k, hk32⟩ ⟨s, hs32⟩
      have e2 : ii (s : Int) &&& (ii (k : Int) ^^^ (-1)) = ii ((df s k : Nat) : Int) := z_df ⟨s, hs32⟩ ⟨k, hk32⟩
      have e3 := m_netsOf x F P A f l a b (s := k) hR hk32
      try dsimp only
      have c1 : ¬ ii (s : Int) ≤ ii (k : Int) := by
        rw [ii_le (by omega) (by omega)]
        omega
      rw [f_X2_groupsOf_L10]
      unfold f_X2_groupsOf_J60
      simp only [e1, e2, if_neg c1]
      rw [show (1 : Int32) = ii 1 from rfl, ii_add]
      by_cases hc : sb k s
      rotate_left
      · have hc' : ¬ (sb k s ∧ sm (nt (a 15) (a 19)) (a 15 2).toNat k = 0) := fun h => hc h.1
        rw [if_neg hc, if_neg hc']
        exact ⟨hu, rfl⟩
      rw [if_pos hc, ok1, Option.bind_some, e3, Option.bind_some]
      by_cases hc2 : sm (nt (a 15) (a 19)) (a 15 2).toNat k = 0
      rotate_left
      · have hsr : rg (sm (nt (a 15) (a 19)) (a 15 2).toNat k) := by
          have hsum : ∀ n : Nat, n ≤ 5 → (n : Int) ≤ a 15 2 → -495 * n ≤ sm (nt (a 15) (a 19)) n k ∧ sm (nt (a 15) (a 19)) n k ≤ 495 * n := by
            intro n
            induction n with
            | zero => intro _ _; exact ⟨Int.le_refl 0, Int.le_refl 0⟩
            | succ n ihn =>
              intro g1 g2
              have g3 := ihn (by omega) (by omega)
              have g4 := nt_rg hR (p := n) (by omega) (by omega)
              have e : sm (nt (a 15) (a 19)) (n + 1) k = sm (nt (a 15) (a 19)) n k + (if hb (k : Int) (n : Int) then nt (a 15) (a 19) n else 0) := rfl
              rw [e]
              split <;> omega
          have := hsum (a 15 2).toNat hn (by omega)
          omega
        have hc' : ¬ (sb k s ∧ sm (nt (a 15) (a 19)) (a 15 2).toNat k = 0) := fun h => hc2 h.2
        have hc3 : ¬ ii (sm (nt (a 15) (a 19)) (a 15 2).toNat k) = 0 := by
          rw [show (0 : Int32) = ii 0 from rfl, ii_eq hsr (by omega)]
          exact hc2
        rw [if_neg hc', if_neg hc3]
        exact ⟨hu, rfl⟩
      have hc' : sb k s ∧ sm (nt (a 15) (a 19)) (a 15 2).toNat k = 0 := ⟨hc, hc2⟩
      rw [if_pos hc', hc2, if_pos (show ii 0 = 0 from rfl), Option.bind_some]
      obtain ⟨z1, z2, z3, z4, -⟩ := z_lt ⟨k, hk32⟩ ⟨s, hs32⟩ hc
      have z3 : df s k < 32 := z3
      have z4 : df s k < s ∧ bc (df s k) < bc s := z4 (by show k ≠ 0; omega)
      have hq1 := Q_le (nt (a 15) (a 19)) hn (df s k) z3
      have hq2 := Q_ge (nt (a 15) (a 19)) hn z3
      have er := ih (df s k) (by omega) (by omega) (by rw [sm_df _ hn hk32 hs32 hc, hz, hc2]; rfl)
      refine ⟨by omega, ?_⟩
      rw [er, Option.bind_some]
      simp (disch := first | omega | assumption) only [ii_lit, ii_neg, ii_add, ii_sub, ii_mul, ii_le, ii_lt, ii_eq, ii_ite, ii_or, ii_and, ii_bit, ii_rem, ii_div, b0_, b1_, b2_, b3_, true_and, and_true]
      congr 1
      congr 1
      split <;> omega
theorem m_payments (x : Nat) (F : Nat → Int) (P : Nat → Option Nat) (A : Nat → Int → Int) (f l : Nat → Int) (a : Nat → Int → Int) (b : fk_M) (hM : Hm f a) : MO x F P A f l a b (s_payments (f 14) (a 15) (a 17) (a 19)) (if f 14 = 1 then 0 else 1) (f_X2_payments (some (x + 8)) (hp x F P A f l a b)) := by
  unfold f_X2_payments s_payments
  rw [ok1, Option.bind_some, m_good, Option.bind_some, gm14, Option.bind_some]
  have e14 : fo f 0 14 = f 14 := rfl
  rw [e14]
  rcases hM with h | ⟨h, hR⟩
  · rw [h, if_pos (show ii 0 = 0 by decide), if_neg (by decide), if_neg (by decide)]
    simp (disch := first | omega | assumption) only [Option.bind_some, bn2_some, ii_lit, ii_neg, ii_add, ii_sub, ii_mul, ii_le, ii_lt, ii_eq, ii_ite, ii_or, ii_and, ii_bit, ii_rem, ii_div, b0_, b1_, b2_, b3_, true_and, and_true, u1_eq, u1_ne, u2_eq, u2_nk, u2_ni, uP_eq, uP_ne, gk1, gk2, gk3, gk4, gk10, gk11, gk12, gk13, gk14, gk15, gk17, gkr0, gkr7, gkr8, gkr9, gkr16, gkr18, gkr19, gkr5, gkr6, ok0, ok1, ok2, ok3, gl2_0, gl2_1, gl2_2, gl3_0, gl3_1, gl3_2, gm0, gm2, gm3, gm4, gm5, gm6, gm7, gm8, gm9, gm10, gm11, gm13, gm14, gm22, gm23, gm26, gm27, gm28, gm29, gm31, gm32, gm33, gm36, gm37, gm39, gm40, gm41, gm1, gm12, gm15, gm16, gm17, gm18, gm19, gm20, gm21, gm24, gm25, gm30, gm34, gm35, gm38, rk0, sk0, rk9, sk9, rk16, sk16, rk18, sk18, rk19, sk19, rm1, sm1, rm12, sm12, rm15, sm15, rm16, sm16, rm17, sm17, rm18, sm18, rm19, sm19, rm20, sm20, rm21, sm21, rm24, sm24, rm25, sm25, rm30, sm30, rm34, sm34, rm35, sm35, rm38, sm38, pk1, pk2, pk3, pk4, pk10, pk11, pk12, pk13, pk14, pk15, pk17, pkr5, pkr6, pm0, pm2, pm3, pm4, pm5, pm6, pm7, pm8, pm9, pm10, pm11, pm13, pz13_0, pz13_1, pm14, pz14_0, pz14_1, pm22, pm23, pm26, pm27, pm28, pm29, pm31, pm32, pm33, pm36, pm37, pm39, pm40, pm41, pl2_0, pl2_1, pl2_2, pl3_0, pl3_1, pl3_2, m_no, u1_u1]
    exact MO.ref ..
  rw [h, if_neg (show ¬ ii 1 = 0 by decide), if_pos rfl, if_pos rfl]
  have hw := hR.wd
  have hn : (a 15 2).toNat ≤ 5 := by omega
  refine MO.of ?_
  have hL := loop_i0 (fun N u k => f_X2_payments_L21 (some (x + 8)) (hp x F P A (fo f 0) l a b) N u (ii k)) (fun (u : Int32) (p : Int) => u ||| (if nt (a 15) (a 19) p = 0 then (0 : Int32) else i_shl 1 (ii p))) (fun u => (f_X2_ones u (hp x F P A (fo f 0) l a b)).bind fun z3 => (f_X2_groupsOf 8 (some (x + 8)) u (hp x F P A (fo f 0) l a b)).bind fun z5 => some ((z3 - z5), (hp x F P A (fo f 0) l a b))) (lo := 0) (hi := a 15 2) ?_ ?_ (a 15 2).toNat fk_fuel 0 0 (by omega) (by omega) (by unfold fk_fuel; omega)
  · refine Eq.trans hL ?_
    have hlt := al_lt (nt (a 15) (a 19)) (a 15 2).toNat
    have h32 := p2_le hn hlt
    have hbc : bc (al (nt (a 15) (a 19)) (a 15 2).toNat) ≤ 5 := z_bc ⟨_, h32⟩
    rw [al_itr (nt (a 15) (a 19)) (a 15 2).toNat hn, m_ones _ h32, Option.bind_some, m_groups x F P A (fo f 0) l a b hR 8 _ (by omega) hlt (by rw [al_sm _ hn]; exact nt_su _ _ _ rfl), Option.bind_some, ii_sub]
  · intro N u
    try dsimp only
    rw [f_X2_payments_L21]
    simp (disch := first | omega | assumption) only [Option.bind_some, bn2_some, ii_lit, ii_neg, ii_add, ii_sub, ii_mul, ii_le, ii_lt, ii_eq, ii_ite, ii_or, ii_and, ii_bit, ii_rem, ii_div, b0_, b1_, b2_, b3_, true_and, and_true, u1_eq, u1_ne, u2_eq, u2_nk, u2_ni, uP_eq, uP_ne, gk1, gk2, gk3, gk4, gk10, gk11, gk12, gk13, gk14, gk15, gk17, gkr0, gkr7, gkr8, gkr9, gkr16, gkr18, gkr19, gkr5, gkr6, ok0, ok1, ok2, ok3, gl2_0, gl2_1, gl2_2, gl3_0, gl3_1, gl3_2, gm0, gm2, gm3, gm4, gm5, gm6, gm7, gm8, gm9, gm10, gm11, gm13, gm14, gm22, gm23, gm26, gm27, gm28, gm29, gm31, gm32, gm33, gm36, gm37, gm39, gm40, gm41, gm1, gm12, gm15, gm16, gm17, gm18, gm19, gm20, gm21, gm24, gm25, gm30, gm34, gm35, gm38, rk0, sk0, rk9, sk9, rk16, sk16, rk18, sk18, rk19, sk19, rm1, sm1, rm12, sm12, rm15, sm15, rm16, sm16, rm17, sm17, rm18, sm18, rm19, sm19, rm20, sm20, rm21, sm21, rm24, sm24, rm25, sm25, rm30, sm30, rm34, sm34, rm35, sm35, rm38, sm38, pk1, pk2, pk3, pk4, pk10, pk11, pk12, pk13, pk14, pk15, pk17, pkr5, pkr6, pm0, pm2, pm3, pm4, pm5, pm6, pm7, pm8, pm9, pm10, pm11, pm13, pz13_0, pz13_1, pm14, pz14_0, pz14_1, pm22, pm23, pm26, pm27, pm28, pm29, pm31, pm32, pm33, pm36, pm37, pm39, pm40, pm41, pl2_0, pl2_1, pl2_2, pl3_0, pl3_1, pl3_2]
    rw [if_pos (by omega)]
  · intro N u k k1 k2
    have e1 := m_netOf x F P A (fo f 0) l a b hR k1 k2
    have hk := nt_rg hR k1 k2
    try dsimp only
    rw [f_X2_payments_L21, gm15, Option.bind_some, show (2 : Int32) = ii 2 from rfl, rm15 x F P A (fo f 0) l a b (by omega) (by omega), Option.bind_some, if_neg (by rw [ii_le (by omega) (by omega)]; omega), ok1, Option.bind_some, e1, Option.bind_some, show (1 : Int32) = ii 1 from rfl, ii_add]
    simp only [show (0 : Int32) = ii 0 from rfl, ii_eq (a := nt (a 15) (a 19) k) (b := 0) (by omega) (by omega)]
/-! the component's table -/
theorem k_pay68 (x : Nat) (F : Nat → Int) (P : Nat → Option Nat) (A : Nat → Int → Int) (f l : Nat → Int) (a : Nat → Int → Int) (b : fk_M) {q lw hk : Int → Nat} {pa sg un l5 l6 s1 s2 s3 : Nat} {ρ τ σ : Int → Int} (hR : Rg ρ τ σ) (hA : Api x P b ρ τ σ q lw hk pa sg un l5 l6 s1 s2 s3) {s c : Nat} (R : Int32 → fk_M → Option (Int32 × fk_M)) (hs : s < 2 ^ (ρ 2).toNat) (h18 : A 18 s = 0) (hT : ∀ j : Nat, j < s → A 18 j = Qf (nt ρ σ) (ρ 2).toNat j) : ∃ A', f_X1_payments_L68 R (some x) (ii c) (ii s) fk_fuel (ii 0) (ii 0) (hp x F P A f l a b) = R (ii ((s : Int) + 1)) (hp x F P A' f l a b) ∧ (∀ j, j ≠ 18 → A' j = A j) ∧ (∀ j : Nat, j ≠ s → A' 18 j = A 18 j) ∧ A' 18 s = Qf (nt ρ σ) (ρ 2).toNat s := by
  have hw := hR.wd
  have hn : (ρ 2).toNat ≤ 5 := by omega
  have hs32 := p2_le hn hs
  have hk1 := hA.2.2.1
  have hL := loop_ex (fun N (u : Int × Int) k (y : Nat → Int → Int) => f_X1_payments_L68 R (some x) (ii c) (ii s) N (ii u.1) (ii k) (hp x F P y f l a b)) (fun u p => if hb s p then (u.1 + nt ρ σ p, max u.2 (Qf (nt ρ σ) (ρ 2).toNat (s - 2 ^ p.toNat))) else u) (fun u y => R (ii ((s : Int) + 1)) (hp x F P (if s ≠ 0 ∧ u.1 = 0 then u2 y 18 s (u.2 + 1) else y) f l a b)) (fun u k y => (∀ j, j ≠ 18 → y j = A j) ∧ (∀ j : Nat, j ≠ s → y 18 j = A 18 j) ∧ y 18 s = u.2 ∧ (0 ≤ u.2 ∧ u.2 ≤ 100) ∧ (-495 * k ≤ u.1 ∧ u.1 ≤ 495 * k)) (lo := 0) (hi := ρ 2) ?_ ?_ (ρ 2).toNat fk_fuel (0, 0) 0 A (by omega) (by omega) (by unfold fk_fuel; omega) ⟨fun _ _ => rfl, fun _ _ => rfl, h18, by omega, by omega⟩
  · obtain ⟨y, g1, g2, g3, g4, -⟩ := hL
    have e1 : ∀ (d : Nat) (k : Int) (u : Int × Int), itr (fun (u : Int × Int) (p : Int) => if hb s p then (u.1 + nt ρ σ p, max u.2 (Qf (nt ρ σ) (ρ 2).toNat (s - 2 ^ p.toNat))) else u) d k u = (itr (fun (u p : Int) => u + (if hb s p then nt ρ σ p else 0)) d k u.1, itr (fun (u p : Int) => if hb s p then max u (Qf (nt ρ σ) (ρ 2).toNat (s - 2 ^ p.toNat)) else u) d k u.2) := by
      intro d
      induction d with
      | zero => intro k u; rfl
      | succ d ih =>
        intro k u
        show itr _ d (k + 1) (if hb s k then (u.1 + nt ρ σ k, max u.2 (Qf (nt ρ σ) (ρ 2).toNat (s - 2 ^ k.toNat))) else u) = (itr _ d (k + 1) (u.1 + (if hb s k then nt ρ σ k else 0)), itr _ d (k + 1) (if hb s k then max u.2 (Qf (nt ρ σ) (ρ 2).toNat (s - 2 ^ k.toNat)) else u.2))
        rw [ih]
        by_cases hc : hb (s : Int) k
        · rw [if_pos hc, if_pos hc, if_pos hc]
        · rw [if_neg hc, if_neg hc, if_neg hc, Int.add_zero]
    rw [e1] at g1 g4
    have e2 : itr (fun (u p : Int) => u + (if hb s p then nt ρ σ p else 0)) (ρ 2).toNat 0 0 = sm (nt ρ σ) (ρ 2).toNat s := itr_su ..
    have e3 : itr (fun (u p : Int) => if hb s p then max u (Qf (nt ρ σ) (ρ 2).toNat (s - 2 ^ p.toNat)) else u) (ρ 2).toNat 0 0 = mx (Qf (nt ρ σ) (ρ 2).toNat) (ρ 2).toNat s := rfl
    dsimp only at g1 g4
    rw [e2, e3] at g1
    rw [e3] at g4
    refine ⟨_, g1, ?_⟩
    rw [Q_eq (nt ρ σ) hn hs32]
    unfold qs
    by_cases hc : s ≠ 0 ∧ sm (nt ρ σ) (ρ 2).toNat s = 0
    · rw [if_pos hc, if_pos hc]
      exact ⟨fun j hj => (u2_nk _ _ _ hj).trans (g2 j hj), fun j hj => (u2_ni _ _ _ (by omega)).trans (g3 j hj), u2_eq ..⟩
    · rw [if_neg hc, if_neg hc, Int.add_zero]
      exact ⟨g2, g3, g4⟩
  · intro N u y hy
    obtain ⟨y1, y2, y3, y4, y5⟩ := hy
    try dsimp only
    rw [f_X1_payments_L68]
    unfold f_X1_payments_J150
    by_cases h0 : s = 0
    · subst h0
      simp (disch := first | omega | assumption) only [Option.bind_some, bn2_some, ii_lit, ii_neg, ii_add, ii_sub, ii_mul, ii_le, ii_lt, ii_eq, ii_ite, ii_or, ii_and, ii_bit, ii_rem, ii_div, b0_, b1_, b2_, b3_, true_and, and_true, u1_eq, u1_ne, u2_eq, u2_nk, u2_ni, uP_eq, uP_ne, gk1, gk2, gk3, gk4, gk10, gk11, gk12, gk13, gk14, gk15, gk17, gkr0, gkr7, gkr8, gkr9, gkr16, gkr18, gkr19, gkr5, gkr6, ok0, ok1, ok2, ok3, gl2_0, gl2_1, gl2_2, gl3_0, gl3_1, gl3_2, gm0, gm2, gm3, gm4, gm5, gm6, gm7, gm8, gm9, gm10, gm11, gm13, gm14, gm22, gm23, gm26, gm27, gm28, gm29, gm31, gm32, gm33, gm36, gm37, gm39, gm40, gm41, gm1, gm12, gm15, gm16, gm17, gm18, gm19, gm20, gm21, gm24, gm25, gm30, gm34, gm35, gm38, rk0, sk0, rk9, sk9, rk16, sk16, rk18, sk18, rk19, sk19, rm1, sm1, rm12, sm12, rm15, sm15, rm16, sm16, rm17, sm17, rm18, sm18, rm19, sm19, rm20, sm20, rm21, sm21, rm24, sm24, rm25, sm25, rm30, sm30, rm34, sm34, rm35, sm35, rm38, sm38, pk1, pk2, pk3, pk4, pk10, pk11, pk12, pk13, pk14, pk15, pk17, pkr5, pkr6, pm0, pm2, pm3, pm4, pm5, pm6, pm7, pm8, pm9, pm10, pm11, pm13, pz13_0, pz13_1, pm14, pz14_0, pz14_1, pm22, pm23, pm26, pm27, pm28, pm29, pm31, pm32, pm33, pm36, pm37, pm39, pm40, pm41, pl2_0, pl2_1, pl2_2, pl3_0, pl3_1, pl3_2, hk1]
      rw [if_pos (by omega), if_pos (by omega), if_neg (fun h => h.1 rfl)]
    · by_cases hz : u.1 = 0
      · simp (disch := first | omega | assumption) only [Option.bind_some, bn2_some, ii_lit, ii_neg, ii_add, ii_sub, ii_mul, ii_le, ii_lt, ii_eq, ii_ite, ii_or, ii_and, ii_bit, ii_rem, ii_div, b0_, b1_, b2_, b3_, true_and, and_true, u1_eq, u1_ne, u2_eq, u2_nk, u2_ni, uP_eq, uP_ne, gk1, gk2, gk3, gk4, gk10, gk11, gk12, gk13, gk14, gk15, gk17, gkr0, gkr7, gkr8, gkr9, gkr16, gkr18, gkr19, gkr5, gkr6, ok0, ok1, ok2, ok3, gl2_0, gl2_1, gl2_2, gl3_0, gl3_1, gl3_2, gm0, gm2, gm3, gm4, gm5, gm6, gm7, gm8, gm9, gm10, gm11, gm13, gm14, gm22, gm23, gm26, gm27, gm28, gm29, gm31, gm32, gm33, gm36, gm37, gm39, gm40, gm41, gm1, gm12, gm15, gm16, gm17, gm18, gm19, gm20, gm21, gm24, gm25, gm30, gm34, gm35, gm38, rk0, sk0, rk9, sk9, rk16, sk16, rk18, sk18, rk19, sk19, rm1, sm1, rm12, sm12, rm15, sm15, rm16, sm16, rm17, sm17, rm18, sm18, rm19, sm19, rm20, sm20, rm21, sm21, rm24, sm24, rm25, sm25, rm30, sm30, rm34, sm34, rm35, sm35, rm38, sm38, pk1, pk2, pk3, pk4, pk10, pk11, pk12, pk13, pk14, pk15, pk17, pkr5, pkr6, pm0, pm2, pm3, pm4, pm5, pm6, pm7, pm8, pm9, pm10, pm11, pm13, pz13_0, pz13_1, pm14, pz14_0, pz14_1, pm22, pm23, pm26, pm27, pm28, pm29, pm31, pm32, pm33, pm36, pm37, pm39, pm40, pm41, pl2_0, pl2_1, pl2_2, pl3_0, pl3_1, pl3_2, hk1, y3, hz]
        rw [if_pos (by omega), if_neg (by omega), if_pos trivial, if_pos h0]
      · simp (disch := first | omega | assumption) only [Option.bind_some, bn2_some, ii_lit, ii_neg, ii_add, ii_sub, ii_mul, ii_le, ii_lt, ii_eq, ii_ite, ii_or, ii_and, ii_bit, ii_rem, ii_div, b0_, b1_, b2_, b3_, true_and, and_true, u1_eq, u1_ne, u2_eq, u2_nk, u2_ni, uP_eq, uP_ne, gk1, gk2, gk3, gk4, gk10, gk11, gk12, gk13, gk14, gk15, gk17, gkr0, gkr7, gkr8, gkr9, gkr16, gkr18, gkr19, gkr5, gkr6, ok0, ok1, ok2, ok3, gl2_0, gl2_1, gl2_2, gl3_0, gl3_1, gl3_2, gm0, gm2, gm3, gm4, gm5, gm6, gm7, gm8, gm9, gm10, gm11, gm13, gm14, gm22, gm23, gm26, gm27, gm28, gm29, gm31, gm32, gm33, gm36, gm37, gm39, gm40, gm41, gm1, gm12, gm15, gm16, gm17, gm18, gm19, gm20, gm21, gm24, gm25, gm30, gm34, gm35, gm38, rk0, sk0, rk9, sk9, rk16, sk16, rk18, sk18, rk19, sk19, rm1, sm1, rm12, sm12, rm15, sm15, rm16, sm16, rm17, sm17, rm18, sm18, rm19, sm19, rm20, sm20, rm21, sm21, rm24, sm24, rm25, sm25, rm30, sm30, rm34, sm34, rm35, sm35, rm38, sm38, pk1, pk2, pk3, pk4, pk10, pk11, pk12, pk13, pk14, pk15, pk17, pkr5, pkr6, pm0, pm2, pm3, pm4, pm5, pm6, pm7, pm8, pm9, pm10, pm11, pm13, pz13_0, pz13_1, pm14, pz14_0, pz14_1, pm22, pm23, pm26, pm27, pm28, pm29, pm31, pm32, pm33, pm36, pm37, pm39, pm40, pm41, pl2_0, pl2_1, pl2_2, pl3_0, pl3_1, pl3_2, hk1]
        rw [if_pos (by omega), if_neg (by omega), if_neg (by omega), if_neg (fun h => hz h.2)]
  · intro N u k y k1 k2 hy
    obtain ⟨y1, y2, y3, y4, y5⟩ := hy
    have e1 := k_netOf x F P y f l a b hR hA k1 k2
    have e2 := k_hasB (hp x F P y f l a b) (s : Int) k
    have hnt := nt_rg hR k1 k2
    by_cases hc : hb (s : Int) k
    · obtain ⟨r1, r2⟩ := y_rm hs32 k1 (show k < 5 by omega) hc
      have r3 : 0 < 2 ^ k.toNat := Nat.pow_pos (by omega)
      have e3 := (y2 (s - 2 ^ k.toNat) (by omega)).trans (hT (s - 2 ^ k.toNat) (by omega))
      have q1 := Q_le (nt ρ σ) hn (s - 2 ^ k.toNat) (by omega)
      have q2 := Q_ge (nt ρ σ) hn (show s - 2 ^ k.toNat < 32 by omega)
      rw [if_pos hc]
      refine ⟨u2 y 18 s (max u.2 (Qf (nt ρ σ) (ρ 2).toNat (s - 2 ^ k.toNat))), ⟨fun j hj => (u2_nk _ _ _ hj).trans (y1 j hj), fun j hj => (u2_ni _ _ _ (by omega)).trans (y2 j hj), u2_eq .., by (try dsimp only); omega, by (try dsimp only); omega⟩, ?_⟩
      try dsimp only
      rw [f_X1_payments_L68]
      unfold f_X1_payments_J126
      rw [r2, e2, if_pos hc]
      simp (disch := first | omega | assumption) only [Option.bind_some, bn2_some, ii_lit, ii_neg, ii_add, ii_sub, ii_mul, ii_le, ii_lt, ii_eq, ii_ite, ii_or, ii_and, ii_bit, ii_rem, ii_div, b0_, b1_, b2_, b3_, true_and, and_true, u1_eq, u1_ne, u2_eq, u2_nk, u2_ni, uP_eq, uP_ne, gk1, gk2, gk3, gk4, gk10, gk11, gk12, gk13, gk14, gk15, gk17, gkr0, gkr7, gkr8, gkr9, gkr16, gkr18, gkr19, gkr5, gkr6, ok0, ok1, ok2, ok3, gl2_0, gl2_1, gl2_2, gl3_0, gl3_1, gl3_2, gm0, gm2, gm3, gm4, gm5, gm6, gm7, gm8, gm9, gm10, gm11, gm13, gm14, gm22, gm23, gm26, gm27, gm28, gm29, gm31, gm32, gm33, gm36, gm37, gm39, gm40, gm41, gm1, gm12, gm15, gm16, gm17, gm18, gm19, gm20, gm21, gm24, gm25, gm30, gm34, gm35, gm38, rk0, sk0, rk9, sk9, rk16, sk16, rk18, sk18, rk19, sk19, rm1, sm1, rm12, sm12, rm15, sm15, rm16, sm16, rm17, sm17, rm18, sm18, rm19, sm19, rm20, sm20, rm21, sm21, rm24, sm24, rm25, sm25, rm30, sm30, rm34, sm34, rm35, sm35, rm38, sm38, pk1, pk2, pk3, pk4, pk10, pk11, pk12, pk13, pk14, pk15, pk17, pkr5, pkr6, pm0, pm2, pm3, pm4, pm5, pm6, pm7, pm8, pm9, pm10, pm11, pm13, pz13_0, pz13_1, pm14, pz14_0, pz14_1, pm22, pm23, pm26, pm27, pm28, pm29, pm31, pm32, pm33, pm36, pm37, pm39, pm40, pm41, pl2_0, pl2_1, pl2_2, pl3_0, pl3_1, pl3_2, hk1, e1, y3, e3, ii_max]
      rw [if_neg (by omega), if_neg (by omega)]
    · rw [if_neg hc]
      refine ⟨y, ⟨y1, y2, y3, y4, by omega⟩, ?_⟩
      try dsimp only
      rw [f_X1_payments_L68]
      unfold f_X1_payments_J126
      rw [e2, if_neg hc]
      simp (disch := first | omega | assumption) only [Option.bind_some, bn2_some, ii_lit, ii_neg, ii_add, ii_sub, ii_mul, ii_le, ii_lt, ii_eq, ii_ite, ii_or, ii_and, ii_bit, ii_rem, ii_div, b0_, b1_, b2_, b3_, true_and, and_true, u1_eq, u1_ne, u2_eq, u2_nk, u2_ni, uP_eq, uP_ne, gk1, gk2, gk3, gk4, gk10, gk11, gk12, gk13, gk14, gk15, gk17, gkr0, gkr7, gkr8, gkr9, gkr16, gkr18, gkr19, gkr5, gkr6, ok0, ok1, ok2, ok3, gl2_0, gl2_1, gl2_2, gl3_0, gl3_1, gl3_2, gm0, gm2, gm3, gm4, gm5, gm6, gm7, gm8, gm9, gm10, gm11, gm13, gm14, gm22, gm23, gm26, gm27, gm28, gm29, gm31, gm32, gm33, gm36, gm37, gm39, gm40, gm41, gm1, gm12, gm15, gm16, gm17, gm18, gm19, gm20, gm21, gm24, gm25, gm30, gm34, gm35, gm38, rk0, sk0, rk9, sk9, rk16, sk16, rk18, sk18, rk19, sk19, rm1, sm1, rm12, sm12, rm15, sm15, rm16, sm16, rm17, sm17, rm18, sm18, rm19, sm19, rm20, sm20, rm21, sm21, rm24, sm24, rm25, sm25, rm30, sm30, rm34, sm34, rm35, sm35, rm38, sm38, pk1, pk2, pk3, pk4, pk10, pk11, pk12, pk13, pk14, pk15, pk17, pkr5, pkr6, pm0, pm2, pm3, pm4, pm5, pm6, pm7, pm8, pm9, pm10, pm11, pm13, pz13_0, pz13_1, pm14, pz14_0, pz14_1, pm22, pm23, pm26, pm27, pm28, pm29, pm31, pm32, pm33, pm36, pm37, pm39, pm40, pm41, pl2_0, pl2_1, pl2_2, pl3_0, pl3_1, pl3_2, hk1]
      rw [if_neg (by omega), if_pos trivial]
theorem k_pay51 (x : Nat) (F : Nat → Int) (P : Nat → Option Nat) (A : Nat → Int → Int) (f l : Nat → Int) (a : Nat → Int → Int) (b : fk_M) {q lw hk : Int → Nat} {pa sg un l5 l6 s1 s2 s3 : Nat} {ρ τ σ : Int → Int} (hR : Rg ρ τ σ) (hA : Api x P b ρ τ σ q lw hk pa sg un l5 l6 s1 s2 s3) {c : Nat} (hc : c < 2 ^ (ρ 2).toNat) : ∃ A', f_X1_payments_L51 (some x) (ii c) fk_fuel (ii 0) (hp x F P A f l a b) = some (ii ((bc c : Int) - Qf (nt ρ σ) (ρ 2).toNat c), hp x (Fo F 0) P A' f l a b) ∧ (∀ j, j ≠ 18 → A' j = A j) := by
  have hw := hR.wd
  have hn : (ρ 2).toNat ≤ 5 := by omega
  have hc32 := p2_le hn hc
  have hL := loop_ex (fun N (_ : Unit) k (y : Nat → Int → Int) => f_X1_payments_L51 (some x) (ii c) N (ii k) (hp x F P y f l a b)) (fun u k => u) (fun u y => some (ii ((bc c : Int) - Qf (nt ρ σ) (ρ 2).toNat c), hp x (Fo F 0) P y f l a b)) (fun u k y => (∀ j, j ≠ 18 → y j = A j) ∧ (∀ j : Nat, (j : Int) < k → y 18 j = Qf (nt ρ σ) (ρ 2).toNat j)) (lo := 0) (hi := (c : Int) + 1) ?_ ?_ (c + 1) fk_fuel () 0 A (by omega) (by omega) (by unfold fk_fuel; omega) ⟨fun _ _ => rfl, fun j hj => by omega⟩
  · obtain ⟨y, g1, g2⟩ := hL
    exact ⟨y, g1, g2.1⟩
  · intro N u y hy
    have e1 := hy.2 c (by omega)
    have e2 := k_bits (hp x F P y f l a b) hc32
    try dsimp only
    rw [f_X1_payments_L51]
    simp (disch := first | omega | assumption) only [Option.bind_some, bn2_some, ii_lit, ii_neg, ii_add, ii_sub, ii_mul, ii_le, ii_lt, ii_eq, ii_ite, ii_or, ii_and, ii_bit, ii_rem, ii_div, b0_, b1_, b2_, b3_, true_and, and_true, u1_eq, u1_ne, u2_eq, u2_nk, u2_ni, uP_eq, uP_ne, gk1, gk2, gk3, gk4, gk10, gk11, gk12, gk13, gk14, gk15, gk17, gkr0, gkr7, gkr8, gkr9, gkr16, gkr18, gkr19, gkr5, gkr6, ok0, ok1, ok2, ok3, gl2_0, gl2_1, gl2_2, gl3_0, gl3_1, gl3_2, gm0, gm2, gm3, gm4, gm5, gm6, gm7, gm8, gm9, gm10, gm11, gm13, gm14, gm22, gm23, gm26, gm27, gm28, gm29, gm31, gm32, gm33, gm36, gm37, gm39, gm40, gm41, gm1, gm12, gm15, gm16, gm17, gm18, gm19, gm20, gm21, gm24, gm25, gm30, gm34, gm35, gm38, rk0, sk0, rk9, sk9, rk16, sk16, rk18, sk18, rk19, sk19, rm1, sm1, rm12, sm12, rm15, sm15, rm16, sm16, rm17, sm17, rm18, sm18, rm19, sm19, rm20, sm20, rm21, sm21, rm24, sm24, rm25, sm25, rm30, sm30, rm34, sm34, rm35, sm35, rm38, sm38, pk1, pk2, pk3, pk4, pk10, pk11, pk12, pk13, pk14, pk15, pk17, pkr5, pkr6, pm0, pm2, pm3, pm4, pm5, pm6, pm7, pm8, pm9, pm10, pm11, pm13, pz13_0, pz13_1, pm14, pz14_0, pz14_1, pm22, pm23, pm26, pm27, pm28, pm29, pm31, pm32, pm33, pm36, pm37, pm39, pm40, pm41, pl2_0, pl2_1, pl2_2, pl3_0, pl3_1, pl3_2, e1, e2, k_well]
    rw [if_pos (by omega)]
  · intro N u k y k1 k2 hy
    obtain ⟨s, rfl⟩ : ∃ s : Nat, k = s := ⟨k.toNat, by omega⟩
    obtain ⟨A', g1, g2, g3, g4⟩ := k_pay68 x F P (u2 y 18 s 0) f l a b hR hA (s := s) (c := c) (f_X1_payments_L51 (some x) (ii c) N) (by omega) (u2_eq ..) (fun j hj => (u2_ni _ _ _ (by omega)).trans (hy.2 j (by omega)))
    refine ⟨A', ⟨fun j hj => (g2 j hj).trans ((u2_nk _ _ _ hj).trans (hy.1 j hj)), fun j hj => ?_⟩, ?_⟩
    · by_cases hjs : j = s
      · subst hjs
        exact g4
      · exact (g3 j hjs).trans ((u2_ni _ _ _ (by omega)).trans (hy.2 j (by omega)))
    · try dsimp only
      rw [← g1, f_X1_payments_L51]
      simp (disch := first | omega | assumption) only [Option.bind_some, bn2_some, ii_lit, ii_neg, ii_add, ii_sub, ii_mul, ii_le, ii_lt, ii_eq, ii_ite, ii_or, ii_and, ii_bit, ii_rem, ii_div, b0_, b1_, b2_, b3_, true_and, and_true, u1_eq, u1_ne, u2_eq, u2_nk, u2_ni, uP_eq, uP_ne, gk1, gk2, gk3, gk4, gk10, gk11, gk12, gk13, gk14, gk15, gk17, gkr0, gkr7, gkr8, gkr9, gkr16, gkr18, gkr19, gkr5, gkr6, ok0, ok1, ok2, ok3, gl2_0, gl2_1, gl2_2, gl3_0, gl3_1, gl3_2, gm0, gm2, gm3, gm4, gm5, gm6, gm7, gm8, gm9, gm10, gm11, gm13, gm14, gm22, gm23, gm26, gm27, gm28, gm29, gm31, gm32, gm33, gm36, gm37, gm39, gm40, gm41, gm1, gm12, gm15, gm16, gm17, gm18, gm19, gm20, gm21, gm24, gm25, gm30, gm34, gm35, gm38, rk0, sk0, rk9, sk9, rk16, sk16, rk18, sk18, rk19, sk19, rm1, sm1, rm12, sm12, rm15, sm15, rm16, sm16, rm17, sm17, rm18, sm18, rm19, sm19, rm20, sm20, rm21, sm21, rm24, sm24, rm25, sm25, rm30, sm30, rm34, sm34, rm35, sm35, rm38, sm38, pk1, pk2, pk3, pk4, pk10, pk11, pk12, pk13, pk14, pk15, pk17, pkr5, pkr6, pm0, pm2, pm3, pm4, pm5, pm6, pm7, pm8, pm9, pm10, pm11, pm13, pz13_0, pz13_1, pm14, pz14_0, pz14_1, pm22, pm23, pm26, pm27, pm28, pm29, pm31, pm32, pm33, pm36, pm37, pm39, pm40, pm41, pl2_0, pl2_1, pl2_2, pl3_0, pl3_1, pl3_2]
      rw [if_neg (by omega)]
theorem k_payments (x : Nat) (F : Nat → Int) (P : Nat → Option Nat) (A : Nat → Int → Int) (f l : Nat → Int) (a : Nat → Int → Int) (b : fk_M) {h : Int} {ρ τ σ : Int → Int} (hK : Kq x P b h ρ τ σ) : KO x F P A f l a b (s_payments h ρ τ σ) (if h = 1 then 0 else 1) (f_X1_payments (some x) (hp x F P A f l a b)) := by
  unfold f_X1_payments s_payments
  rw [gkr5, Option.bind_some]
  by_cases h0 : h = 1
  rotate_left
  · rw [if_neg h0, if_neg h0, k_none hK h0, if_pos rfl]
    simp (disch := first | omega | assumption) only [Option.bind_some, bn2_some, ii_lit, ii_neg, ii_add, ii_sub, ii_mul, ii_le, ii_lt, ii_eq, ii_ite, ii_or, ii_and, ii_bit, ii_rem, ii_div, b0_, b1_, b2_, b3_, true_and, and_true, u1_eq, u1_ne, u2_eq, u2_nk, u2_ni, uP_eq, uP_ne, gk1, gk2, gk3, gk4, gk10, gk11, gk12, gk13, gk14, gk15, gk17, gkr0, gkr7, gkr8, gkr9, gkr16, gkr18, gkr19, gkr5, gkr6, ok0, ok1, ok2, ok3, gl2_0, gl2_1, gl2_2, gl3_0, gl3_1, gl3_2, gm0, gm2, gm3, gm4, gm5, gm6, gm7, gm8, gm9, gm10, gm11, gm13, gm14, gm22, gm23, gm26, gm27, gm28, gm29, gm31, gm32, gm33, gm36, gm37, gm39, gm40, gm41, gm1, gm12, gm15, gm16, gm17, gm18, gm19, gm20, gm21, gm24, gm25, gm30, gm34, gm35, gm38, rk0, sk0, rk9, sk9, rk16, sk16, rk18, sk18, rk19, sk19, rm1, sm1, rm12, sm12, rm15, sm15, rm16, sm16, rm17, sm17, rm18, sm18, rm19, sm19, rm20, sm20, rm21, sm21, rm24, sm24, rm25, sm25, rm30, sm30, rm34, sm34, rm35, sm35, rm38, sm38, pk1, pk2, pk3, pk4, pk10, pk11, pk12, pk13, pk14, pk15, pk17, pkr5, pkr6, pm0, pm2, pm3, pm4, pm5, pm6, pm7, pm8, pm9, pm10, pm11, pm13, pz13_0, pz13_1, pm14, pz14_0, pz14_1, pm22, pm23, pm26, pm27, pm28, pm29, pm31, pm32, pm33, pm36, pm37, pm39, pm40, pm41, pl2_0, pl2_1, pl2_2, pl3_0, pl3_1, pl3_2, k_refused]
    exact KO.ref ..
  rw [if_pos h0, if_pos h0]
  obtain rfl := h0
  obtain ⟨hh, -⟩ | ⟨-, hR, q, lw, hk, pa, sg, un, l5, l6, s1, s2, s3, hA⟩ := hK
  · omega
  have hw := hR.wd
  rw [hA.1, if_neg (show ¬ some pa = none from fun h => by cases h)]
  have hn : (ρ 2).toNat ≤ 5 := by omega
  have hlt := al_lt (nt ρ σ) (ρ 2).toNat
  obtain ⟨A', g1, g2⟩ := k_pay51 x F P A f l a b hR hA hlt
  refine KO.mk F A' (ke.rfl' _) (g2 0 (by omega)) ?_
  have hk1 := hA.2.2.1
  have hL := loop_i0 (fun N u k => f_X1_payments_L17 (some x) (hp x F P A f l a b) N u (ii k)) (fun (u : Int32) (p : Int) => u ||| (if nt ρ σ p = 0 then (0 : Int32) else i_shl 1 (ii p))) (fun u => f_X1_payments_L51 (some x) u fk_fuel (ii 0) (hp x F P A f l a b)) (lo := 0) (hi := ρ 2) ?_ ?_ (ρ 2).toNat fk_fuel 0 0 (by omega) (by omega) (by unfold fk_fuel; omega)
  · refine Eq.trans hL ?_
    rw [al_itr (nt ρ σ) (ρ 2).toNat hn]
    exact g1
  · intro N u
    try dsimp only
    rw [f_X1_payments_L17]
    simp (disch := first | omega | assumption) only [Option.bind_some, bn2_some, ii_lit, ii_neg, ii_add, ii_sub, ii_mul, ii_le, ii_lt, ii_eq, ii_ite, ii_or, ii_and, ii_bit, ii_rem, ii_div, b0_, b1_, b2_, b3_, true_and, and_true, u1_eq, u1_ne, u2_eq, u2_nk, u2_ni, uP_eq, uP_ne, gk1, gk2, gk3, gk4, gk10, gk11, gk12, gk13, gk14, gk15, gk17, gkr0, gkr7, gkr8, gkr9, gkr16, gkr18, gkr19, gkr5, gkr6, ok0, ok1, ok2, ok3, gl2_0, gl2_1, gl2_2, gl3_0, gl3_1, gl3_2, gm0, gm2, gm3, gm4, gm5, gm6, gm7, gm8, gm9, gm10, gm11, gm13, gm14, gm22, gm23, gm26, gm27, gm28, gm29, gm31, gm32, gm33, gm36, gm37, gm39, gm40, gm41, gm1, gm12, gm15, gm16, gm17, gm18, gm19, gm20, gm21, gm24, gm25, gm30, gm34, gm35, gm38, rk0, sk0, rk9, sk9, rk16, sk16, rk18, sk18, rk19, sk19, rm1, sm1, rm12, sm12, rm15, sm15, rm16, sm16, rm17, sm17, rm18, sm18, rm19, sm19, rm20, sm20, rm21, sm21, rm24, sm24, rm25, sm25, rm30, sm30, rm34, sm34, rm35, sm35, rm38, sm38, pk1, pk2, pk3, pk4, pk10, pk11, pk12, pk13, pk14, pk15, pk17, pkr5, pkr6, pm0, pm2, pm3, pm4, pm5, pm6, pm7, pm8, pm9, pm10, pm11, pm13, pz13_0, pz13_1, pm14, pz14_0, pz14_1, pm22, pm23, pm26, pm27, pm28, pm29, pm31, pm32, pm33, pm36, pm37, pm39, pm40, pm41, pl2_0, pl2_1, pl2_2, pl3_0, pl3_1, pl3_2, hk1]
    rw [if_pos (by omega)]
  · intro N u k k1 k2
    have e1 := k_netOf x F P A f l a b hR hA k1 k2
    have hk := nt_rg hR k1 k2
    try dsimp only
    rw [f_X1_payments_L17, ok0, Option.bind_some, hk1, Option.bind_some, if_neg (by rw [ii_le (by omega) (by omega)]; omega), Option.bind_some, e1, Option.bind_some, show (1 : Int32) = ii 1 from rfl, ii_add]
    simp only [show (0 : Int32) = ii 0 from rfl, ii_eq (a := nt ρ σ k) (b := 0) (by omega) (by omega)]
