/-! PLAIN 81: the calls that are no queries -/
set_option maxRecDepth 100000
theorem wc_ok (h : Int) (ρ σ : Int → Int) (p : Int) : 0 ≤ w_change h ρ σ p ∧ w_change h ρ σ p ≤ 6 ∧ w_change h ρ σ p ≠ 4 := by
  unfold w_change
  (repeat' split) <;> omega
theorem ws_ok (h : Int) (ρ σ : Int → Int) (p s : Int) : 0 ≤ w_step h ρ σ p s ∧ w_step h ρ σ p s ≤ 6 ∧ w_step h ρ σ p s ≠ 4 := by
  unfold w_step
  (repeat' split) <;> omega
theorem wp_ok (h : Int) (ρ σ : Int → Int) (p q m : Int) : 0 ≤ w_pay h ρ σ p q m ∧ w_pay h ρ σ p q m ≤ 6 ∧ w_pay h ρ σ p q m ≠ 4 := by
  have := wy_rg ((h = 1 ∧ 0 ≤ p ∧ p < ρ 2) ∧ (h = 1 ∧ 0 ≤ q ∧ q < ρ 2) ∧ p ≠ q) (1 ≤ m ∧ m ≤ 99)
  unfold w_pay
  split
  · split <;> omega
  · omega
theorem wn_ok (h : Int) (σ : Int → Int) : 0 ≤ w_season h σ ∧ w_season h σ ≤ 6 ∧ w_season h σ ≠ 4 := by
  unfold w_season
  (repeat' split) <;> omega
theorem wi_ok (h : Int) (k : Nat) : 0 ≤ w_image h k ∧ w_image h k ≤ 6 ∧ w_image h k ≠ 4 := by
  unfold w_image
  (repeat' split) <;> omega
section STX
variable {x sc L n k : Nat} {xs : Nat → Int32} {g : Nat → Nat} {b0 m : fk_M} {i : Int} {R : Int32 → Nat → Nat → fk_M → Option (Int32 × Nat × Nat × fk_M)}
theorem t_292 (hS : Sc x sc L xs b0) (hI : Inv x n g b0 m) (i0 : 0 ≤ i) (i1 : i + 6 ≤ L) : Gz x g b0 R i n k (f_L_law_J292 g R (some sc) (some x) (some (x + 8)) (some (x + 24)) (ii i) n k m) := by
  obtain ⟨F, P, A, f, l, a, b, u, kk, rfl, hI⟩ := hI
  obtain ⟨s1, s2, s3, s4, s5, hr, hA⟩ := hS.five i0 i1
  obtain ⟨a1, a2, a3, a4, a5⟩ := hA _ (hI.low.hp F P A f l a)
  have hlow := hI.low
  have hI0 := hI
  obtain ⟨k1, ⟨k2, k3⟩, ⟨k4, k5, k6⟩, ⟨k7, k8, k9, k90⟩, k10, k11, k12⟩ := hI
  have kf := k_feed x F P A f l a b (ii s1) (ii s2) (ii s3) (ii s4) (ii s5) k4 k5
  unfold f_L_law_J292 f_L_law_J2125
  by_cases hc : 880 < F 1
  · have mf := (m_feed x F P A f l a b (ii s1) (ii s2) (ii s3) (ii s4) (ii s5) (by omega) (by omega)).1 (by omega)
    refine ⟨n, k, _, ?_, ⟨F, P, A, _, l, a, b, u, kk, rfl, hI0.f0 0⟩, by omega⟩
    simp only [a1, a2, a3, a4, a5, kf.1 hc, mf, ok0, ok1, Option.bind_some, bn2_some, if_true]
  · obtain ⟨A', q1, q2, q3⟩ := kf.2 (by omega)
    obtain ⟨a', p1, p2, p3, p4⟩ := (m_feed x (u1 F 1 (F 1 + 20)) P A' f l a b (ii s1) (ii s2) (ii s3) (ii s4) (ii s5) (by omega) (by omega)).2 (by omega)
    obtain ⟨c1, c2, c3, c4, c5⟩ := hA _ (hlow.hp (u1 F 1 (F 1 + 20)) P A' f l a)
    rw [k6] at p1 p3 p4
    refine ⟨n, k, _, ?_, ⟨u1 F 1 (F 1 + 20), P, A', u1 (u1 f 0 0) 2 (F 1 + 20), l, a', b, u, kk, rfl, ?_, ⟨k2, k3⟩, ⟨?_, ?_, ?_⟩, ⟨?_, ?_, ?_, k90⟩, fun t t0 t1 => ?_, k11, k12⟩, by omega⟩
    · simp only [a1, a2, a3, a4, a5, c1, c2, c3, c4, c5, q1, p1, ok0, ok1, Option.bind_some, bn2_some, if_true]
    · rw [p2 15 (by omega), p2 17 (by omega), p2 19 (by omega), p2 20 (by omega), p2 21 (by omega)]
      exact k1.F' (u1_ne _ _ (by omega)) (u1_ne _ _ (by omega))
    · rw [u1_eq]; omega
    · rw [u1_eq]; omega
    · rw [u1_eq, u1_eq]
    · exact (u1_ne _ _ (by omega)).trans k7
    · exact (u1_ne _ _ (by omega)).trans k8
    · exact (u1_ne _ _ (by omega)).trans k9
    · rw [u1_eq] at t1
      by_cases ht : t < F 1
      · rw [q2 t ht, p3 t ht]
        exact k10 t t0 ht
      · have e : t = F 1 + (t - F 1) := by omega
        have hb := fb_rg (ii s1) (ii s2) (ii s3) (ii s4) (ii s5) (t - F 1)
        rw [e, q3 (t - F 1) (by omega) (by omega), p4 (t - F 1) (by omega) (by omega)]
        exact ⟨rfl, hb⟩
theorem t_390 (hI : Inv x n g b0 m) (x0 x3 : Option Nat) : Gz x g b0 R i n k (f_L_law_J390 g R x0 (some x) (some (x + 8)) x3 (ii i) n k m) := by
  obtain ⟨F, P, A, f, l, a, b, u, kk, rfl, hI⟩ := hI
  refine ⟨n, k, _, ?_, ⟨F, P, A, u1 f 0 0, l, a, b, u, kk, rfl, hI.f0 0⟩, by omega⟩
  have h7 := hI.2.2.2.1.1
  unfold f_L_law_J390 f_L_law_J2125 f_X1_fault f_X2_fault
  rw [ok0, Option.bind_some, gk2, Option.bind_some, Option.bind_some, ok1, Option.bind_some, show (tI (0 : Int32)) = tI (ii 0) from rfl, pm0, Option.bind_some, gm9, Option.bind_some, bn2_some, if_pos (show ii (F 2) = ii (u1 f 0 0 9) from congrArg ii h7)]
theorem t_403 (hI : Inv x n g b0 m) (x0 x3 : Option Nat) : Gz x g b0 R i n k (f_L_law_J403 g R x0 (some x) (some (x + 8)) x3 (ii i) n k m) := by
  obtain ⟨F, P, A, f, l, a, b, u, kk, rfl, hI⟩ := hI
  refine ⟨n, k, _, ?_, ⟨F, P, A, u1 f 0 0, l, a, b, u, kk, rfl, hI.f0 0⟩, by omega⟩
  obtain ⟨-, -, h9, h10, h11⟩ := hI.2.2.2.1
  unfold f_L_law_J403 f_L_law_J2125 f_X1_where f_X2_where
  rw [ok0, Option.bind_some, gk3, Option.bind_some, Option.bind_some, ok1, Option.bind_some, show (tI (0 : Int32)) = tI (ii 0) from rfl, pm0, Option.bind_some, gm11, Option.bind_some]
  by_cases h4 : f 11 = 4
  · rw [if_pos h4] at h9
    rw [if_pos (show ii (u1 f 0 0 11) = 4 from (congrArg ii h4 : ii (f 11) = ii 4)), gm10, Option.bind_some, bn2_some, if_pos (show ii (F 3) = ii (u1 f 0 0 10) from congrArg ii h9)]
  · rw [if_neg h4] at h9
    rw [if_neg (show ¬ ii (u1 f 0 0 11) = 4 from fun hh => h4 ((ii_eq (a := f 11) (b := 4) (by omega) (by omega)).mp hh)), bn2_some, if_pos (show ii (F 3) = -1 by rw [h9]; rfl)]
theorem t_2112 (hI : Inv x n g b0 m) (x0 x3 : Option Nat) : Gz x g b0 R i n k (f_L_law_J2112 g R x0 (some x) (some (x + 8)) x3 (ii i) n k m) := by
  obtain ⟨F, P, A, f, l, a, b, u, kk, rfl, hI⟩ := hI
  refine ⟨n, k, _, ?_, ⟨F, P, A, u1 f 0 0, l, a, b, u, kk, rfl, hI.f0 0⟩, by omega⟩
  have h8 := hI.2.2.2.1.2.1
  unfold f_L_law_J2112 f_L_law_J2125 f_X1_trouble f_X2_trouble
  rw [ok0, Option.bind_some, gk4, Option.bind_some, Option.bind_some, ok1, Option.bind_some, show (tI (0 : Int32)) = tI (ii 0) from rfl, pm0, Option.bind_some, gm11, Option.bind_some, bn2_some, if_pos (show ii (F 4) = ii (u1 f 0 0 11) from congrArg ii h8)]
theorem t_2087 (hS : Sc x sc L xs b0) (hI : Inv x n g b0 m) (i0 : 0 ≤ i) (i1 : i + 6 ≤ L) (x3 : Option Nat) : Gz x g b0 R i n k (f_L_law_J2087 g R (some sc) (some x) (some (x + 8)) x3 (ii i) n k m) := by
  obtain ⟨F, P, A, f, l, a, b, u, kk, rfl, hI⟩ := hI
  obtain ⟨s1, s2, s3, s4, s5, hr, hA⟩ := hS.five i0 i1
  obtain ⟨a1, a2, a3, a4, a5⟩ := hA _ (hI.low.hp F P A f l a)
  refine ⟨n, k, _, ?_, ⟨F, P, A, u1 f 0 0, l, a, b, u, kk, rfl, hI.f0 0⟩, by omega⟩
  have hks := k_size x F P A f l a b hI.1 (w := s1) hr.1
  have hms := m_size x F P A f l a b (w := s1) hr.1 hI.hm
  rw [hI.2.1.1, hI.2.1.2, hI.2.2.1.2.2] at hms
  unfold f_L_law_J2087 f_L_law_J2125
  simp only [a1, hks, hms, ok0, ok1, Option.bind_some, bn2_some, if_true]
theorem t_1856 (hI : Inv x n g b0 m) (x0 x3 : Option Nat) : Gz x g b0 R i n k (f_L_law_J1856 g R x0 (some x) (some (x + 8)) x3 (ii i) n k m) := by
  obtain ⟨F, P, A, f, l, a, b, u, kk, rfl, hI⟩ := hI
  obtain ⟨U', hN⟩ := Nt.ex (a 20) (a 19) u
  have ks := k_season x F P A f l a b (kk := k) (U' := U') hI.1
  have ms := fun F P A b => m_season x F P A f l a b hI.uk.1 hI.2.1.1 hI.hm
  unfold f_L_law_J1856 f_L_law_J2125
  by_cases hw : w_season (f 14) (a 19) = 0
  · have h14 : f 14 = 1 := by
      unfold w_season at hw
      by_cases hc : f 14 = 1
      · exact hc
      · rw [if_neg hc] at hw
        omega
    have hak := ks.2 hw hN
    obtain ⟨n', k', m1, m2, e1, e2, e3, e4, e5, e6⟩ := hI.ak h14 hN hak (ii_tI _).symm (M := f_X2_season (some (x + 8))) (fun F P A b => (ms F P A b).2 hw)
    refine ⟨n', k', m2, ?_, e6, by omega⟩
    simp only [e1, e3, e5, ok0, Option.bind_some, bn2_some, bn4_some, if_true]
  · obtain ⟨m1, m2, e1, e3, e4, e5, e6⟩ := hI.ar (ks.1 hw) (M := f_X2_season (some (x + 8))) (fun F => (ms F P A b).1 hw) (wn_ok _ _)
    refine ⟨n, k, m2, ?_, e6, by omega⟩
    simp only [e1, e3, e5, ok0, Option.bind_some, bn2_some, bn4_some, if_true]
theorem t_1869 (hS : Sc x sc L xs b0) (hI : Inv x n g b0 m) (i0 : 0 ≤ i) (i1 : i + 6 ≤ L) (x3 : Option Nat) : Gz x g b0 R i n k (f_L_law_J1869 g R (some sc) (some x) (some (x + 8)) x3 (ii i) n k m) := by
  obtain ⟨F, P, A, f, l, a, b, u, kk, rfl, hI⟩ := hI
  obtain ⟨s1, s2, s3, s4, s5, hr, hA⟩ := hS.five i0 i1
  obtain ⟨a1, a2, a3, a4, a5⟩ := hA _ (hI.low.hp F P A f l a)
  obtain ⟨U', hN⟩ := Nt.ex (a 20) (a 19) u
  have ks := k_change x F P A f l a b (kk := k) (U' := U') hI.1 (p := s1) hr.1
  have ms := fun F P A b => m_change x F P A f l a b hI.uk.1 hI.2.1.1 (p := s1) hr.1 hI.hm
  unfold f_L_law_J1869 f_L_law_J2125
  by_cases hw : w_change (f 14) (a 15) (a 19) s1 = 0
  · have h14 : f 14 = 1 := by
      unfold w_change at hw
      by_cases hc : (f 14 = 1 ∧ 0 ≤ s1 ∧ s1 < a 15 2)
      · exact hc.1
      · rw [if_neg hc] at hw
        omega
    obtain ⟨n', k', m1, m2, e1, e2, e3, e4, e5, e6⟩ := hI.ak h14 hN (ks.2 hw hN) rfl (M := f_X2_change (some (x + 8)) (ii s1)) (fun F P A b => (ms F P A b).2 hw)
    obtain ⟨c1, c2, c3, c4, c5⟩ := hA _ e4
    refine ⟨n', k', m2, ?_, e6, by omega⟩
    simp only [a1, c1, e1, e3, e5, ok0, Option.bind_some, bn2_some, bn4_some, if_true]
  · obtain ⟨m1, m2, e1, e3, e4, e5, e6⟩ := hI.ar (ks.1 hw) (M := f_X2_change (some (x + 8)) (ii s1)) (fun F => (ms F P A b).1 hw) (wc_ok _ _ _ _)
    obtain ⟨c1, c2, c3, c4, c5⟩ := hA _ e4
    refine ⟨n, k, m2, ?_, e6, by omega⟩
    simp only [a1, c1, e1, e3, e5, ok0, Option.bind_some, bn2_some, bn4_some, if_true]
theorem t_1894 (hS : Sc x sc L xs b0) (hI : Inv x n g b0 m) (i0 : 0 ≤ i) (i1 : i + 6 ≤ L) (x3 : Option Nat) : Gz x g b0 R i n k (f_L_law_J1894 g R (some sc) (some x) (some (x + 8)) x3 (ii i) n k m) := by
  obtain ⟨F, P, A, f, l, a, b, u, kk, rfl, hI⟩ := hI
  obtain ⟨s1, s2, s3, s4, s5, hr, hA⟩ := hS.five i0 i1
  obtain ⟨a1, a2, a3, a4, a5⟩ := hA _ (hI.low.hp F P A f l a)
  obtain ⟨U', hN⟩ := Nt.ex (a 20) (a 19) u
  have ks := k_step x F P A f l a b (kk := k) (U' := U') hI.1 (p := s1) (s := s2) hr.1 hr.2.1
  have ms := fun F P A b => m_step x F P A f l a b hI.uk.1 hI.2.1.1 (p := s1) (s := s2) hr.1 hr.2.1 hI.hm
  unfold f_L_law_J1894 f_L_law_J2125
  by_cases hw : w_step (f 14) (a 15) (a 19) s1 s2 = 0
  · have h14 : f 14 = 1 := by
      unfold w_step at hw
      by_cases hc : (f 14 = 1 ∧ 0 ≤ s1 ∧ s1 < a 15 2)
      · exact hc.1
      · rw [if_neg hc] at hw
        omega
    obtain ⟨n', k', m1, m2, e1, e2, e3, e4, e5, e6⟩ := hI.ak h14 hN (ks.2 hw hN) rfl (M := f_X2_step (some (x + 8)) (ii s1) (ii s2)) (fun F P A b => (ms F P A b).2 hw)
    obtain ⟨c1, c2, c3, c4, c5⟩ := hA _ e4
    refine ⟨n', k', m2, ?_, e6, by omega⟩
    simp only [a1, a2, c1, c2, e1, e3, e5, ok0, Option.bind_some, bn2_some, bn4_some, if_true]
  · obtain ⟨m1, m2, e1, e3, e4, e5, e6⟩ := hI.ar (ks.1 hw) (M := f_X2_step (some (x + 8)) (ii s1) (ii s2)) (fun F => (ms F P A b).1 hw) (ws_ok _ _ _ _ _)
    obtain ⟨c1, c2, c3, c4, c5⟩ := hA _ e4
    refine ⟨n, k, m2, ?_, e6, by omega⟩
    simp only [a1, a2, c1, c2, e1, e3, e5, ok0, Option.bind_some, bn2_some, bn4_some, if_true]
theorem t_1931 (hS : Sc x sc L xs b0) (hI : Inv x n g b0 m) (i0 : 0 ≤ i) (i1 : i + 6 ≤ L) (x3 : Option Nat) : Gz x g b0 R i n k (f_L_law_J1931 g R (some sc) (some x) (some (x + 8)) x3 (ii i) n k m) := by
  obtain ⟨F, P, A, f, l, a, b, u, kk, rfl, hI⟩ := hI
  obtain ⟨s1, s2, s3, s4, s5, hr, hA⟩ := hS.five i0 i1
  obtain ⟨a1, a2, a3, a4, a5⟩ := hA _ (hI.low.hp F P A f l a)
  obtain ⟨U', hN⟩ := Nt.ex (a 20) (a 19) u
  have ks := k_pay x F P A f l a b (kk := k) (U' := U') hI.1 (p := s1) (r := s2) (m := s3) hr.1 hr.2.1 hr.2.2.1
  have ms := fun F P A b => m_pay x F P A f l a b hI.uk.1 hI.2.1.1 (p := s1) (q := s2) (m := s3) hr.1 hr.2.1 hr.2.2.1 hI.hm
  unfold f_L_law_J1931 f_L_law_J2125
  by_cases hw : w_pay (f 14) (a 15) (a 19) s1 s2 s3 = 0
  · have h14 : f 14 = 1 := by
      unfold w_pay at hw
      by_cases hc : wy ((f 14 = 1 ∧ 0 ≤ s1 ∧ s1 < a 15 2) ∧ (f 14 = 1 ∧ 0 ≤ s2 ∧ s2 < a 15 2) ∧ s1 ≠ s2) (1 ≤ s3 ∧ s3 ≤ 99) = 0
      · exact (wy_0.mp hc).1.1.1
      · rw [if_neg hc] at hw
        exact absurd hw hc
    obtain ⟨n', k', m1, m2, e1, e2, e3, e4, e5, e6⟩ := hI.ak h14 hN (ks.2 hw hN) rfl (M := f_X2_pay (some (x + 8)) (ii s1) (ii s2) (ii s3)) (fun F P A b => (ms F P A b).2 hw)
    obtain ⟨c1, c2, c3, c4, c5⟩ := hA _ e4
    refine ⟨n', k', m2, ?_, e6, by omega⟩
    simp only [a1, a2, a3, c1, c2, c3, e1, e3, e5, ok0, Option.bind_some, bn2_some, bn4_some, if_true]
  · obtain ⟨m1, m2, e1, e3, e4, e5, e6⟩ := hI.ar (ks.1 hw) (M := f_X2_pay (some (x + 8)) (ii s1) (ii s2) (ii s3)) (fun F => (ms F P A b).1 hw) (wp_ok _ _ _ _ _ _)
    obtain ⟨c1, c2, c3, c4, c5⟩ := hA _ e4
    refine ⟨n, k, m2, ?_, e6, by omega⟩
    simp only [a1, a2, a3, c1, c2, c3, e1, e3, e5, ok0, Option.bind_some, bn2_some, bn4_some, if_true]
end STX
