/-! PLAIN 82: the calls that are queries (by gen_steps.py) -/
set_option maxRecDepth 100000
section STQ
variable {x sc L n k : Nat} {xs : Nat → Int32} {g : Nat → Nat} {b0 m : fk_M} {i : Int} {R : Int32 → Nat → Nat → fk_M → Option (Int32 × Nat × Nat × fk_M)}
theorem t_416 (hS : Sc x sc L xs b0) (hI : Inv x n g b0 m) (i0 : 0 ≤ i) (i1 : i + 6 ≤ L) : Gz x g b0 R i n k (f_L_law_J416 g R (some sc) (some x) (some (x + 8)) (some (x + 24)) (ii i) n k m) := by
  obtain ⟨F, P, A, f, l, a, b, u, kk, rfl, hI⟩ := hI
  obtain ⟨s1, s2, s3, s4, s5, hr, hA⟩ := hS.five i0 i1
  obtain ⟨a1, a2, a3, a4, a5⟩ := hA _ (hI.low.hp F P A f l a)
  have hk := k_pair x F P A f l a b hI.1.kq hr.1 hr.2.1
  obtain ⟨m1, m2, e1, e2, e3, e4, e5⟩ := hI.qq hk (M := f_X2_pair (some (x + 8)) (ii s1) (ii s2)) (fun F A => MO.of (m_pair x F P A f l a b hr.1 hr.2.1 hI.hm)) (it_n4 _)
  obtain ⟨c1, c2, c3, c4, c5⟩ := hA _ e3
  refine ⟨n, k, m2, ?_, e5, by omega⟩
  unfold f_L_law_J416 f_L_law_J2125
  simp only [a1, a2, a3, a4, a5, c1, c2, c3, c4, c5, ok0, e1, e2, e4, Option.bind_some, bn2_some, if_true]
theorem t_453 (hS : Sc x sc L xs b0) (hI : Inv x n g b0 m) (i0 : 0 ≤ i) (i1 : i + 6 ≤ L) : Gz x g b0 R i n k (f_L_law_J453 g R (some sc) (some x) (some (x + 8)) (some (x + 24)) (ii i) n k m) := by
  obtain ⟨F, P, A, f, l, a, b, u, kk, rfl, hI⟩ := hI
  obtain ⟨s1, s2, s3, s4, s5, hr, hA⟩ := hS.five i0 i1
  obtain ⟨a1, a2, a3, a4, a5⟩ := hA _ (hI.low.hp F P A f l a)
  have hk := k_says x F P A f l a b hI.1.kq hr.1 hr.2.1
  obtain ⟨m1, m2, e1, e2, e3, e4, e5⟩ := hI.qq hk (M := f_X2_says (some (x + 8)) (ii s1) (ii s2)) (fun F A => MO.of (m_says x F P A f l a b hr.1 hr.2.1 hI.hm)) (wy_n4 _ _)
  obtain ⟨c1, c2, c3, c4, c5⟩ := hA _ e3
  refine ⟨n, k, m2, ?_, e5, by omega⟩
  unfold f_L_law_J453 f_L_law_J2125
  simp only [a1, a2, a3, a4, a5, c1, c2, c3, c4, c5, ok0, e1, e2, e4, Option.bind_some, bn2_some, if_true]
theorem t_490 (hS : Sc x sc L xs b0) (hI : Inv x n g b0 m) (i0 : 0 ≤ i) (i1 : i + 6 ≤ L) : Gz x g b0 R i n k (f_L_law_J490 g R (some sc) (some x) (some (x + 8)) (some (x + 24)) (ii i) n k m) := by
  obtain ⟨F, P, A, f, l, a, b, u, kk, rfl, hI⟩ := hI
  obtain ⟨s1, s2, s3, s4, s5, hr, hA⟩ := hS.five i0 i1
  obtain ⟨a1, a2, a3, a4, a5⟩ := hA _ (hI.low.hp F P A f l a)
  have hk := k_saysAll x F P A f l a b hI.1.kq hr.1 hr.2.1
  obtain ⟨m1, m2, e1, e2, e3, e4, e5⟩ := hI.qq hk (M := f_X2_saysAll (some (x + 8)) (ii s1) (ii s2)) (fun F A => MO.of (m_saysAll x F P A f l a b hr.1 hr.2.1 hI.hm)) (wy_n4 _ _)
  obtain ⟨c1, c2, c3, c4, c5⟩ := hA _ e3
  refine ⟨n, k, m2, ?_, e5, by omega⟩
  unfold f_L_law_J490 f_L_law_J2125
  simp only [a1, a2, a3, a4, a5, c1, c2, c3, c4, c5, ok0, e1, e2, e4, Option.bind_some, bn2_some, if_true]
theorem t_527 (hS : Sc x sc L xs b0) (hI : Inv x n g b0 m) (i0 : 0 ≤ i) (i1 : i + 6 ≤ L) : Gz x g b0 R i n k (f_L_law_J527 g R (some sc) (some x) (some (x + 8)) (some (x + 24)) (ii i) n k m) := by
  obtain ⟨F, P, A, f, l, a, b, u, kk, rfl, hI⟩ := hI
  obtain ⟨s1, s2, s3, s4, s5, hr, hA⟩ := hS.five i0 i1
  obtain ⟨a1, a2, a3, a4, a5⟩ := hA _ (hI.low.hp F P A f l a)
  have hk := k_moreIn x F P A f l a b hI.1.kq hr.1
  obtain ⟨m1, m2, e1, e2, e3, e4, e5⟩ := hI.qq hk (M := f_X2_moreIn (some (x + 8)) (ii s1)) (fun F A => MO.of (m_moreIn x F P A f l a b hr.1 hI.hm)) (it_n4 _)
  obtain ⟨c1, c2, c3, c4, c5⟩ := hA _ e3
  refine ⟨n, k, m2, ?_, e5, by omega⟩
  unfold f_L_law_J527 f_L_law_J2125
  simp only [a1, a2, a3, a4, a5, c1, c2, c3, c4, c5, ok0, e1, e2, e4, Option.bind_some, bn2_some, if_true]
theorem t_552 (hS : Sc x sc L xs b0) (hI : Inv x n g b0 m) (i0 : 0 ≤ i) (i1 : i + 6 ≤ L) : Gz x g b0 R i n k (f_L_law_J552 g R (some sc) (some x) (some (x + 8)) (some (x + 24)) (ii i) n k m) := by
  obtain ⟨F, P, A, f, l, a, b, u, kk, rfl, hI⟩ := hI
  obtain ⟨s1, s2, s3, s4, s5, hr, hA⟩ := hS.five i0 i1
  obtain ⟨a1, a2, a3, a4, a5⟩ := hA _ (hI.low.hp F P A f l a)
  have hk := k_moreTimes x F P A f l a b hI.1.kq hr.1 hr.2.1
  obtain ⟨m1, m2, e1, e2, e3, e4, e5⟩ := hI.qq hk (M := f_X2_moreTimes (some (x + 8)) (ii s1) (ii s2)) (fun F A => MO.of (m_moreTimes x F P A f l a b hr.1 hr.2.1 hI.hm)) (wy_n4 _ _)
  obtain ⟨c1, c2, c3, c4, c5⟩ := hA _ e3
  refine ⟨n, k, m2, ?_, e5, by omega⟩
  unfold f_L_law_J552 f_L_law_J2125
  simp only [a1, a2, a3, a4, a5, c1, c2, c3, c4, c5, ok0, e1, e2, e4, Option.bind_some, bn2_some, if_true]
theorem t_589 (hS : Sc x sc L xs b0) (hI : Inv x n g b0 m) (i0 : 0 ≤ i) (i1 : i + 6 ≤ L) : Gz x g b0 R i n k (f_L_law_J589 g R (some sc) (some x) (some (x + 8)) (some (x + 24)) (ii i) n k m) := by
  obtain ⟨F, P, A, f, l, a, b, u, kk, rfl, hI⟩ := hI
  obtain ⟨s1, s2, s3, s4, s5, hr, hA⟩ := hS.five i0 i1
  obtain ⟨a1, a2, a3, a4, a5⟩ := hA _ (hI.low.hp F P A f l a)
  have hk := k_settles x F P A f l a b hI.1.kq hr.1
  obtain ⟨m1, m2, e1, e2, e3, e4, e5⟩ := hI.qq hk (M := f_X2_settles (some (x + 8)) (ii s1)) (fun F A => m_settles x F P A f l a b hr.1 hI.hm) (it_n4 _)
  obtain ⟨c1, c2, c3, c4, c5⟩ := hA _ e3
  refine ⟨n, k, m2, ?_, e5, by omega⟩
  unfold f_L_law_J589 f_L_law_J2125
  simp only [a1, a2, a3, a4, a5, c1, c2, c3, c4, c5, ok0, e1, e2, e4, Option.bind_some, bn2_some, if_true]
theorem t_614 (hS : Sc x sc L xs b0) (hI : Inv x n g b0 m) (i0 : 0 ≤ i) (i1 : i + 6 ≤ L) : Gz x g b0 R i n k (f_L_law_J614 g R (some sc) (some x) (some (x + 8)) (some (x + 24)) (ii i) n k m) := by
  obtain ⟨F, P, A, f, l, a, b, u, kk, rfl, hI⟩ := hI
  obtain ⟨s1, s2, s3, s4, s5, hr, hA⟩ := hS.five i0 i1
  obtain ⟨a1, a2, a3, a4, a5⟩ := hA _ (hI.low.hp F P A f l a)
  have hk := k_round x F P A f l a b hI.1.kq hr.1
  obtain ⟨m1, m2, e1, e2, e3, e4, e5⟩ := hI.qq hk (M := f_X2_round (some (x + 8)) (ii s1)) (fun F A => m_round x F P A f l a b hr.1 hI.hm) (it_n4 _)
  obtain ⟨c1, c2, c3, c4, c5⟩ := hA _ e3
  refine ⟨n, k, m2, ?_, e5, by omega⟩
  unfold f_L_law_J614 f_L_law_J2125
  simp only [a1, a2, a3, a4, a5, c1, c2, c3, c4, c5, ok0, e1, e2, e4, Option.bind_some, bn2_some, if_true]
theorem t_639 (hS : Sc x sc L xs b0) (hI : Inv x n g b0 m) (i0 : 0 ≤ i) (i1 : i + 6 ≤ L) : Gz x g b0 R i n k (f_L_law_J639 g R (some sc) (some x) (some (x + 8)) (some (x + 24)) (ii i) n k m) := by
  obtain ⟨F, P, A, f, l, a, b, u, kk, rfl, hI⟩ := hI
  obtain ⟨s1, s2, s3, s4, s5, hr, hA⟩ := hS.five i0 i1
  obtain ⟨a1, a2, a3, a4, a5⟩ := hA _ (hI.low.hp F P A f l a)
  have hk := k_saysLate x F P A f l a b hI.1.kq hr.1 hr.2.1
  obtain ⟨m1, m2, e1, e2, e3, e4, e5⟩ := hI.qq hk (M := f_X2_saysLate (some (x + 8)) (ii s1) (ii s2)) (fun F A => m_saysLate x F P A f l a b hr.1 hr.2.1 hI.hm) (wy_n4 _ _)
  obtain ⟨c1, c2, c3, c4, c5⟩ := hA _ e3
  refine ⟨n, k, m2, ?_, e5, by omega⟩
  unfold f_L_law_J639 f_L_law_J2125
  simp only [a1, a2, a3, a4, a5, c1, c2, c3, c4, c5, ok0, e1, e2, e4, Option.bind_some, bn2_some, if_true]
theorem t_676 (hS : Sc x sc L xs b0) (hI : Inv x n g b0 m) (i0 : 0 ≤ i) (i1 : i + 6 ≤ L) : Gz x g b0 R i n k (f_L_law_J676 g R (some sc) (some x) (some (x + 8)) (some (x + 24)) (ii i) n k m) := by
  obtain ⟨F, P, A, f, l, a, b, u, kk, rfl, hI⟩ := hI
  obtain ⟨s1, s2, s3, s4, s5, hr, hA⟩ := hS.five i0 i1
  obtain ⟨a1, a2, a3, a4, a5⟩ := hA _ (hI.low.hp F P A f l a)
  have hk := k_roundMost x F P A f l a b hI.1.kq hr.1
  obtain ⟨m1, m2, e1, e2, e3, e4, e5⟩ := hI.qq hk (M := f_X2_roundMost (some (x + 8)) (ii s1)) (fun F A => m_roundMost x F P A f l a b hr.1 hI.hm) (it_n4 _)
  obtain ⟨c1, c2, c3, c4, c5⟩ := hA _ e3
  refine ⟨n, k, m2, ?_, e5, by omega⟩
  unfold f_L_law_J676 f_L_law_J2125
  simp only [a1, a2, a3, a4, a5, c1, c2, c3, c4, c5, ok0, e1, e2, e4, Option.bind_some, bn2_some, if_true]
theorem t_701 (hS : Sc x sc L xs b0) (hI : Inv x n g b0 m) (i0 : 0 ≤ i) (i1 : i + 6 ≤ L) : Gz x g b0 R i n k (f_L_law_J701 g R (some sc) (some x) (some (x + 8)) (some (x + 24)) (ii i) n k m) := by
  obtain ⟨F, P, A, f, l, a, b, u, kk, rfl, hI⟩ := hI
  obtain ⟨s1, s2, s3, s4, s5, hr, hA⟩ := hS.five i0 i1
  obtain ⟨a1, a2, a3, a4, a5⟩ := hA _ (hI.low.hp F P A f l a)
  have hk := k_roundLeast x F P A f l a b hI.1.kq hr.1
  obtain ⟨m1, m2, e1, e2, e3, e4, e5⟩ := hI.qq hk (M := f_X2_roundLeast (some (x + 8)) (ii s1)) (fun F A => m_roundLeast x F P A f l a b hr.1 hI.hm) (it_n4 _)
  obtain ⟨c1, c2, c3, c4, c5⟩ := hA _ e3
  refine ⟨n, k, m2, ?_, e5, by omega⟩
  unfold f_L_law_J701 f_L_law_J2125
  simp only [a1, a2, a3, a4, a5, c1, c2, c3, c4, c5, ok0, e1, e2, e4, Option.bind_some, bn2_some, if_true]
theorem t_726 (hS : Sc x sc L xs b0) (hI : Inv x n g b0 m) (i0 : 0 ≤ i) (i1 : i + 6 ≤ L) : Gz x g b0 R i n k (f_L_law_J726 g R (some sc) (some x) (some (x + 8)) (some (x + 24)) (ii i) n k m) := by
  obtain ⟨F, P, A, f, l, a, b, u, kk, rfl, hI⟩ := hI
  obtain ⟨s1, s2, s3, s4, s5, hr, hA⟩ := hS.five i0 i1
  obtain ⟨a1, a2, a3, a4, a5⟩ := hA _ (hI.low.hp F P A f l a)
  have hk := k_turnsAbout x F P A f l a b hI.1.kq hr.1
  obtain ⟨m1, m2, e1, e2, e3, e4, e5⟩ := hI.qq hk (M := f_X2_turnsAbout (some (x + 8)) (ii s1)) (fun F A => MO.of (m_turnsAbout x F P A f l a b hr.1 hI.hm)) (it_n4 _)
  obtain ⟨c1, c2, c3, c4, c5⟩ := hA _ e3
  refine ⟨n, k, m2, ?_, e5, by omega⟩
  unfold f_L_law_J726 f_L_law_J2125
  simp only [a1, a2, a3, a4, a5, c1, c2, c3, c4, c5, ok0, e1, e2, e4, Option.bind_some, bn2_some, if_true]
theorem t_751 (hS : Sc x sc L xs b0) (hI : Inv x n g b0 m) (i0 : 0 ≤ i) (i1 : i + 6 ≤ L) : Gz x g b0 R i n k (f_L_law_J751 g R (some sc) (some x) (some (x + 8)) (some (x + 24)) (ii i) n k m) := by
  obtain ⟨F, P, A, f, l, a, b, u, kk, rfl, hI⟩ := hI
  obtain ⟨s1, s2, s3, s4, s5, hr, hA⟩ := hS.five i0 i1
  obtain ⟨a1, a2, a3, a4, a5⟩ := hA _ (hI.low.hp F P A f l a)
  have hk := k_alikeIn x F P A f l a b hI.1.kq hr.1 hr.2.1
  obtain ⟨m1, m2, e1, e2, e3, e4, e5⟩ := hI.qq hk (M := f_X2_alikeIn (some (x + 8)) (ii s1) (ii s2)) (fun F A => MO.of (m_alikeIn x F P A f l a b hr.1 hr.2.1 hI.hm)) (it_n4 _)
  obtain ⟨c1, c2, c3, c4, c5⟩ := hA _ e3
  refine ⟨n, k, m2, ?_, e5, by omega⟩
  unfold f_L_law_J751 f_L_law_J2125
  simp only [a1, a2, a3, a4, a5, c1, c2, c3, c4, c5, ok0, e1, e2, e4, Option.bind_some, bn2_some, if_true]
theorem t_788 (hS : Sc x sc L xs b0) (hI : Inv x n g b0 m) (i0 : 0 ≤ i) (i1 : i + 6 ≤ L) : Gz x g b0 R i n k (f_L_law_J788 g R (some sc) (some x) (some (x + 8)) (some (x + 24)) (ii i) n k m) := by
  obtain ⟨F, P, A, f, l, a, b, u, kk, rfl, hI⟩ := hI
  obtain ⟨s1, s2, s3, s4, s5, hr, hA⟩ := hS.five i0 i1
  obtain ⟨a1, a2, a3, a4, a5⟩ := hA _ (hI.low.hp F P A f l a)
  have hk := k_loudest x F P A f l a b hI.1.kq hr.1
  obtain ⟨m1, m2, e1, e2, e3, e4, e5⟩ := hI.qq hk (M := f_X2_loudest (some (x + 8)) (ii s1)) (fun F A => MO.of (m_loudest x F P A f l a b hr.1 hI.hm)) (wy_n4 _ _)
  obtain ⟨c1, c2, c3, c4, c5⟩ := hA _ e3
  refine ⟨n, k, m2, ?_, e5, by omega⟩
  unfold f_L_law_J788 f_L_law_J2125
  simp only [a1, a2, a3, a4, a5, c1, c2, c3, c4, c5, ok0, e1, e2, e4, Option.bind_some, bn2_some, if_true]
theorem t_813 (hS : Sc x sc L xs b0) (hI : Inv x n g b0 m) (i0 : 0 ≤ i) (i1 : i + 6 ≤ L) : Gz x g b0 R i n k (f_L_law_J813 g R (some sc) (some x) (some (x + 8)) (some (x + 24)) (ii i) n k m) := by
  obtain ⟨F, P, A, f, l, a, b, u, kk, rfl, hI⟩ := hI
  obtain ⟨s1, s2, s3, s4, s5, hr, hA⟩ := hS.five i0 i1
  obtain ⟨a1, a2, a3, a4, a5⟩ := hA _ (hI.low.hp F P A f l a)
  have hk := k_overtakes x F P A f l a b hI.1.kq hr.1 hr.2.1
  obtain ⟨m1, m2, e1, e2, e3, e4, e5⟩ := hI.qq hk (M := f_X2_overtakes (some (x + 8)) (ii s1) (ii s2)) (fun F A => MO.of (m_overtakes x F P A f l a b hr.1 hr.2.1 hI.hm)) (it_n4 _)
  obtain ⟨c1, c2, c3, c4, c5⟩ := hA _ e3
  refine ⟨n, k, m2, ?_, e5, by omega⟩
  unfold f_L_law_J813 f_L_law_J2125
  simp only [a1, a2, a3, a4, a5, c1, c2, c3, c4, c5, ok0, e1, e2, e4, Option.bind_some, bn2_some, if_true]
theorem t_850 (hS : Sc x sc L xs b0) (hI : Inv x n g b0 m) (i0 : 0 ≤ i) (i1 : i + 6 ≤ L) : Gz x g b0 R i n k (f_L_law_J850 g R (some sc) (some x) (some (x + 8)) (some (x + 24)) (ii i) n k m) := by
  obtain ⟨F, P, A, f, l, a, b, u, kk, rfl, hI⟩ := hI
  obtain ⟨s1, s2, s3, s4, s5, hr, hA⟩ := hS.five i0 i1
  obtain ⟨a1, a2, a3, a4, a5⟩ := hA _ (hI.low.hp F P A f l a)
  have hk := k_widest x F P A f l a b hI.1.kq hr.1
  obtain ⟨m1, m2, e1, e2, e3, e4, e5⟩ := hI.qq hk (M := f_X2_widest (some (x + 8)) (ii s1)) (fun F A => MO.of (m_widest x F P A f l a b hr.1 hI.hm)) (wy_n4 _ _)
  obtain ⟨c1, c2, c3, c4, c5⟩ := hA _ e3
  refine ⟨n, k, m2, ?_, e5, by omega⟩
  unfold f_L_law_J850 f_L_law_J2125
  simp only [a1, a2, a3, a4, a5, c1, c2, c3, c4, c5, ok0, e1, e2, e4, Option.bind_some, bn2_some, if_true]
theorem t_875 (hS : Sc x sc L xs b0) (hI : Inv x n g b0 m) (i0 : 0 ≤ i) (i1 : i + 6 ≤ L) : Gz x g b0 R i n k (f_L_law_J875 g R (some sc) (some x) (some (x + 8)) (some (x + 24)) (ii i) n k m) := by
  obtain ⟨F, P, A, f, l, a, b, u, kk, rfl, hI⟩ := hI
  obtain ⟨s1, s2, s3, s4, s5, hr, hA⟩ := hS.five i0 i1
  obtain ⟨a1, a2, a3, a4, a5⟩ := hA _ (hI.low.hp F P A f l a)
  have hk := k_sumAll x F P A f l a b hI.1.kq hr.1
  obtain ⟨m1, m2, e1, e2, e3, e4, e5⟩ := hI.qq hk (M := f_X2_sumAll (some (x + 8)) (ii s1)) (fun F A => MO.of (m_sumAll x F P A f l a b hr.1 hI.hm)) (wy_n4 _ _)
  obtain ⟨c1, c2, c3, c4, c5⟩ := hA _ e3
  refine ⟨n, k, m2, ?_, e5, by omega⟩
  unfold f_L_law_J875 f_L_law_J2125
  simp only [a1, a2, a3, a4, a5, c1, c2, c3, c4, c5, ok0, e1, e2, e4, Option.bind_some, bn2_some, if_true]
theorem t_900 (hS : Sc x sc L xs b0) (hI : Inv x n g b0 m) (i0 : 0 ≤ i) (i1 : i + 6 ≤ L) : Gz x g b0 R i n k (f_L_law_J900 g R (some sc) (some x) (some (x + 8)) (some (x + 24)) (ii i) n k m) := by
  obtain ⟨F, P, A, f, l, a, b, u, kk, rfl, hI⟩ := hI
  obtain ⟨s1, s2, s3, s4, s5, hr, hA⟩ := hS.five i0 i1
  obtain ⟨a1, a2, a3, a4, a5⟩ := hA _ (hI.low.hp F P A f l a)
  have hk := k_masters x F P A f l a b hI.1.kq hr.1
  obtain ⟨m1, m2, e1, e2, e3, e4, e5⟩ := hI.qq hk (M := f_X2_masters (some (x + 8)) (ii s1)) (fun F A => MO.of (m_masters x F P A f l a b hr.1 hI.hm)) (wy_n4 _ _)
  obtain ⟨c1, c2, c3, c4, c5⟩ := hA _ e3
  refine ⟨n, k, m2, ?_, e5, by omega⟩
  unfold f_L_law_J900 f_L_law_J2125
  simp only [a1, a2, a3, a4, a5, c1, c2, c3, c4, c5, ok0, e1, e2, e4, Option.bind_some, bn2_some, if_true]
theorem t_925 (hS : Sc x sc L xs b0) (hI : Inv x n g b0 m) (i0 : 0 ≤ i) (i1 : i + 6 ≤ L) : Gz x g b0 R i n k (f_L_law_J925 g R (some sc) (some x) (some (x + 8)) (some (x + 24)) (ii i) n k m) := by
  obtain ⟨F, P, A, f, l, a, b, u, kk, rfl, hI⟩ := hI
  obtain ⟨s1, s2, s3, s4, s5, hr, hA⟩ := hS.five i0 i1
  obtain ⟨a1, a2, a3, a4, a5⟩ := hA _ (hI.low.hp F P A f l a)
  have hk := k_everyFor x F P A f l a b hI.1.kq hr.1 hr.2.1
  obtain ⟨m1, m2, e1, e2, e3, e4, e5⟩ := hI.qq hk (M := f_X2_everyFor (some (x + 8)) (ii s1) (ii s2)) (fun F A => MO.of (m_everyFor x F P A f l a b hr.1 hr.2.1 hI.hm)) (wy_n4 _ _)
  obtain ⟨c1, c2, c3, c4, c5⟩ := hA _ e3
  refine ⟨n, k, m2, ?_, e5, by omega⟩
  unfold f_L_law_J925 f_L_law_J2125
  simp only [a1, a2, a3, a4, a5, c1, c2, c3, c4, c5, ok0, e1, e2, e4, Option.bind_some, bn2_some, if_true]
theorem t_962 (hS : Sc x sc L xs b0) (hI : Inv x n g b0 m) (i0 : 0 ≤ i) (i1 : i + 6 ≤ L) : Gz x g b0 R i n k (f_L_law_J962 g R (some sc) (some x) (some (x + 8)) (some (x + 24)) (ii i) n k m) := by
  obtain ⟨F, P, A, f, l, a, b, u, kk, rfl, hI⟩ := hI
  obtain ⟨s1, s2, s3, s4, s5, hr, hA⟩ := hS.five i0 i1
  obtain ⟨a1, a2, a3, a4, a5⟩ := hA _ (hI.low.hp F P A f l a)
  have hk := k_everySays x F P A f l a b hI.1.kq hr.1 hr.2.1
  obtain ⟨m1, m2, e1, e2, e3, e4, e5⟩ := hI.qq hk (M := f_X2_everySays (some (x + 8)) (ii s1) (ii s2)) (fun F A => MO.of (m_everySays x F P A f l a b hr.1 hr.2.1 hI.hm)) (wy_n4 _ _)
  obtain ⟨c1, c2, c3, c4, c5⟩ := hA _ e3
  refine ⟨n, k, m2, ?_, e5, by omega⟩
  unfold f_L_law_J962 f_L_law_J2125
  simp only [a1, a2, a3, a4, a5, c1, c2, c3, c4, c5, ok0, e1, e2, e4, Option.bind_some, bn2_some, if_true]
theorem t_999 (hS : Sc x sc L xs b0) (hI : Inv x n g b0 m) (i0 : 0 ≤ i) (i1 : i + 6 ≤ L) : Gz x g b0 R i n k (f_L_law_J999 g R (some sc) (some x) (some (x + 8)) (some (x + 24)) (ii i) n k m) := by
  obtain ⟨F, P, A, f, l, a, b, u, kk, rfl, hI⟩ := hI
  obtain ⟨s1, s2, s3, s4, s5, hr, hA⟩ := hS.five i0 i1
  obtain ⟨a1, a2, a3, a4, a5⟩ := hA _ (hI.low.hp F P A f l a)
  have hk := k_everyNever x F P A f l a b hI.1.kq hr.1
  obtain ⟨m1, m2, e1, e2, e3, e4, e5⟩ := hI.qq hk (M := f_X2_everyNever (some (x + 8)) (ii s1)) (fun F A => MO.of (m_everyNever x F P A f l a b hr.1 hI.hm)) (it_n4 _)
  obtain ⟨c1, c2, c3, c4, c5⟩ := hA _ e3
  refine ⟨n, k, m2, ?_, e5, by omega⟩
  unfold f_L_law_J999 f_L_law_J2125
  simp only [a1, a2, a3, a4, a5, c1, c2, c3, c4, c5, ok0, e1, e2, e4, Option.bind_some, bn2_some, if_true]
theorem t_1024 (hS : Sc x sc L xs b0) (hI : Inv x n g b0 m) (i0 : 0 ≤ i) (i1 : i + 6 ≤ L) : Gz x g b0 R i n k (f_L_law_J1024 g R (some sc) (some x) (some (x + 8)) (some (x + 24)) (ii i) n k m) := by
  obtain ⟨F, P, A, f, l, a, b, u, kk, rfl, hI⟩ := hI
  obtain ⟨s1, s2, s3, s4, s5, hr, hA⟩ := hS.five i0 i1
  obtain ⟨a1, a2, a3, a4, a5⟩ := hA _ (hI.low.hp F P A f l a)
  have hk := k_stepFor x F P A f l a b hI.1.kq hr.1 hr.2.1
  obtain ⟨m1, m2, e1, e2, e3, e4, e5⟩ := hI.qq hk (M := f_X2_stepFor (some (x + 8)) (ii s1) (ii s2)) (fun F A => MO.of (m_stepFor x F P A f l a b hr.1 hr.2.1 hI.hm)) (wy_n4 _ _)
  obtain ⟨c1, c2, c3, c4, c5⟩ := hA _ e3
  refine ⟨n, k, m2, ?_, e5, by omega⟩
  unfold f_L_law_J1024 f_L_law_J2125
  simp only [a1, a2, a3, a4, a5, c1, c2, c3, c4, c5, ok0, e1, e2, e4, Option.bind_some, bn2_some, if_true]
theorem t_1061 (hS : Sc x sc L xs b0) (hI : Inv x n g b0 m) (i0 : 0 ≤ i) (i1 : i + 6 ≤ L) : Gz x g b0 R i n k (f_L_law_J1061 g R (some sc) (some x) (some (x + 8)) (some (x + 24)) (ii i) n k m) := by
  obtain ⟨F, P, A, f, l, a, b, u, kk, rfl, hI⟩ := hI
  obtain ⟨s1, s2, s3, s4, s5, hr, hA⟩ := hS.five i0 i1
  obtain ⟨a1, a2, a3, a4, a5⟩ := hA _ (hI.low.hp F P A f l a)
  have hk := k_fits x F P A f l a b hI.1.kq 
  obtain ⟨m1, m2, e1, e2, e3, e4, e5⟩ := hI.qq hk (M := f_X2_fits (some (x + 8)) ) (fun F A => m_fits x F P A f l a b  hI.hm) (it_n4 _)
  obtain ⟨c1, c2, c3, c4, c5⟩ := hA _ e3
  refine ⟨n, k, m2, ?_, e5, by omega⟩
  unfold f_L_law_J1061 f_L_law_J2125
  simp only [a1, a2, a3, a4, a5, c1, c2, c3, c4, c5, ok0, e1, e2, e4, Option.bind_some, bn2_some, if_true]
theorem t_1074 (hS : Sc x sc L xs b0) (hI : Inv x n g b0 m) (i0 : 0 ≤ i) (i1 : i + 6 ≤ L) : Gz x g b0 R i n k (f_L_law_J1074 g R (some sc) (some x) (some (x + 8)) (some (x + 24)) (ii i) n k m) := by
  obtain ⟨F, P, A, f, l, a, b, u, kk, rfl, hI⟩ := hI
  obtain ⟨s1, s2, s3, s4, s5, hr, hA⟩ := hS.five i0 i1
  obtain ⟨a1, a2, a3, a4, a5⟩ := hA _ (hI.low.hp F P A f l a)
  have hk := k_fitAt x F P A f l a b hI.1.kq hr.1
  obtain ⟨m1, m2, e1, e2, e3, e4, e5⟩ := hI.qq hk (M := f_X2_fitAt (some (x + 8)) (ii s1)) (fun F A => m_fitAt x F P A f l a b hr.1 hI.hm) (it_n4 _)
  obtain ⟨c1, c2, c3, c4, c5⟩ := hA _ e3
  refine ⟨n, k, m2, ?_, e5, by omega⟩
  unfold f_L_law_J1074 f_L_law_J2125
  simp only [a1, a2, a3, a4, a5, c1, c2, c3, c4, c5, ok0, e1, e2, e4, Option.bind_some, bn2_some, if_true]
theorem t_1099 (hS : Sc x sc L xs b0) (hI : Inv x n g b0 m) (i0 : 0 ≤ i) (i1 : i + 6 ≤ L) : Gz x g b0 R i n k (f_L_law_J1099 g R (some sc) (some x) (some (x + 8)) (some (x + 24)) (ii i) n k m) := by
  obtain ⟨F, P, A, f, l, a, b, u, kk, rfl, hI⟩ := hI
  obtain ⟨s1, s2, s3, s4, s5, hr, hA⟩ := hS.five i0 i1
  obtain ⟨a1, a2, a3, a4, a5⟩ := hA _ (hI.low.hp F P A f l a)
  have hk := k_could x F P A f l a b hI.1.kq 
  obtain ⟨m1, m2, e1, e2, e3, e4, e5⟩ := hI.qq hk (M := f_X2_could (some (x + 8)) ) (fun F A => m_could x F P A f l a b  hI.hm) (it_n4 _)
  obtain ⟨c1, c2, c3, c4, c5⟩ := hA _ e3
  refine ⟨n, k, m2, ?_, e5, by omega⟩
  unfold f_L_law_J1099 f_L_law_J2125
  simp only [a1, a2, a3, a4, a5, c1, c2, c3, c4, c5, ok0, e1, e2, e4, Option.bind_some, bn2_some, if_true]
theorem t_1112 (hS : Sc x sc L xs b0) (hI : Inv x n g b0 m) (i0 : 0 ≤ i) (i1 : i + 6 ≤ L) : Gz x g b0 R i n k (f_L_law_J1112 g R (some sc) (some x) (some (x + 8)) (some (x + 24)) (ii i) n k m) := by
  obtain ⟨F, P, A, f, l, a, b, u, kk, rfl, hI⟩ := hI
  obtain ⟨s1, s2, s3, s4, s5, hr, hA⟩ := hS.five i0 i1
  obtain ⟨a1, a2, a3, a4, a5⟩ := hA _ (hI.low.hp F P A f l a)
  have hk := k_surely x F P A f l a b hI.1.kq 
  obtain ⟨m1, m2, e1, e2, e3, e4, e5⟩ := hI.qq hk (M := f_X2_surely (some (x + 8)) ) (fun F A => m_surely x F P A f l a b  hI.hm) (it_n4 _)
  obtain ⟨c1, c2, c3, c4, c5⟩ := hA _ e3
  refine ⟨n, k, m2, ?_, e5, by omega⟩
  unfold f_L_law_J1112 f_L_law_J2125
  simp only [a1, a2, a3, a4, a5, c1, c2, c3, c4, c5, ok0, e1, e2, e4, Option.bind_some, bn2_some, if_true]
theorem t_1125 (hS : Sc x sc L xs b0) (hI : Inv x n g b0 m) (i0 : 0 ≤ i) (i1 : i + 6 ≤ L) : Gz x g b0 R i n k (f_L_law_J1125 g R (some sc) (some x) (some (x + 8)) (some (x + 24)) (ii i) n k m) := by
  obtain ⟨F, P, A, f, l, a, b, u, kk, rfl, hI⟩ := hI
  obtain ⟨s1, s2, s3, s4, s5, hr, hA⟩ := hS.five i0 i1
  obtain ⟨a1, a2, a3, a4, a5⟩ := hA _ (hI.low.hp F P A f l a)
  have hk := k_ask x F P A f l a b hI.1.kq 
  obtain ⟨m1, m2, e1, e2, e3, e4, e5⟩ := hI.qq hk (M := f_X2_ask (some (x + 8)) ) (fun F A => m_ask x F P A f l a b  hI.hm) (it_n4 _)
  obtain ⟨c1, c2, c3, c4, c5⟩ := hA _ e3
  refine ⟨n, k, m2, ?_, e5, by omega⟩
  unfold f_L_law_J1125 f_L_law_J2125
  simp only [a1, a2, a3, a4, a5, c1, c2, c3, c4, c5, ok0, e1, e2, e4, Option.bind_some, bn2_some, if_true]
theorem t_1138 (hS : Sc x sc L xs b0) (hI : Inv x n g b0 m) (i0 : 0 ≤ i) (i1 : i + 6 ≤ L) : Gz x g b0 R i n k (f_L_law_J1138 g R (some sc) (some x) (some (x + 8)) (some (x + 24)) (ii i) n k m) := by
  obtain ⟨F, P, A, f, l, a, b, u, kk, rfl, hI⟩ := hI
  obtain ⟨s1, s2, s3, s4, s5, hr, hA⟩ := hS.five i0 i1
  obtain ⟨a1, a2, a3, a4, a5⟩ := hA _ (hI.low.hp F P A f l a)
  have hk := k_askLeaves x F P A f l a b hI.1.kq 
  obtain ⟨m1, m2, e1, e2, e3, e4, e5⟩ := hI.qq hk (M := f_X2_askLeaves (some (x + 8)) ) (fun F A => m_askLeaves x F P A f l a b  hI.hm) (it_n4 _)
  obtain ⟨c1, c2, c3, c4, c5⟩ := hA _ e3
  refine ⟨n, k, m2, ?_, e5, by omega⟩
  unfold f_L_law_J1138 f_L_law_J2125
  simp only [a1, a2, a3, a4, a5, c1, c2, c3, c4, c5, ok0, e1, e2, e4, Option.bind_some, bn2_some, if_true]
theorem t_1151 (hS : Sc x sc L xs b0) (hI : Inv x n g b0 m) (i0 : 0 ≤ i) (i1 : i + 6 ≤ L) : Gz x g b0 R i n k (f_L_law_J1151 g R (some sc) (some x) (some (x + 8)) (some (x + 24)) (ii i) n k m) := by
  obtain ⟨F, P, A, f, l, a, b, u, kk, rfl, hI⟩ := hI
  obtain ⟨s1, s2, s3, s4, s5, hr, hA⟩ := hS.five i0 i1
  obtain ⟨a1, a2, a3, a4, a5⟩ := hA _ (hI.low.hp F P A f l a)
  have hk := k_judge x F P A f l a b hI.1.kq 
  obtain ⟨m1, m2, e1, e2, e3, e4, e5⟩ := hI.qq hk (M := f_X2_judge (some (x + 8)) ) (fun F A => m_judge x F P A f l a b  hI.hm) (it_n4 _)
  obtain ⟨c1, c2, c3, c4, c5⟩ := hA _ e3
  refine ⟨n, k, m2, ?_, e5, by omega⟩
  unfold f_L_law_J1151 f_L_law_J2125
  simp only [a1, a2, a3, a4, a5, c1, c2, c3, c4, c5, ok0, e1, e2, e4, Option.bind_some, bn2_some, if_true]
theorem t_1164 (hS : Sc x sc L xs b0) (hI : Inv x n g b0 m) (i0 : 0 ≤ i) (i1 : i + 6 ≤ L) : Gz x g b0 R i n k (f_L_law_J1164 g R (some sc) (some x) (some (x + 8)) (some (x + 24)) (ii i) n k m) := by
  obtain ⟨F, P, A, f, l, a, b, u, kk, rfl, hI⟩ := hI
  obtain ⟨s1, s2, s3, s4, s5, hr, hA⟩ := hS.five i0 i1
  obtain ⟨a1, a2, a3, a4, a5⟩ := hA _ (hI.low.hp F P A f l a)
  have hk := k_third x F P A f l a b hI.1.kq hr.1
  obtain ⟨m1, m2, e1, e2, e3, e4, e5⟩ := hI.qq hk (M := f_X2_third (some (x + 8)) (ii s1)) (fun F A => m_third x F P A f l a b hr.1 hI.hm) (it_n4 _)
  obtain ⟨c1, c2, c3, c4, c5⟩ := hA _ e3
  refine ⟨n, k, m2, ?_, e5, by omega⟩
  unfold f_L_law_J1164 f_L_law_J2125
  simp only [a1, a2, a3, a4, a5, c1, c2, c3, c4, c5, ok0, e1, e2, e4, Option.bind_some, bn2_some, if_true]
theorem t_1189 (hS : Sc x sc L xs b0) (hI : Inv x n g b0 m) (i0 : 0 ≤ i) (i1 : i + 6 ≤ L) : Gz x g b0 R i n k (f_L_law_J1189 g R (some sc) (some x) (some (x + 8)) (some (x + 24)) (ii i) n k m) := by
  obtain ⟨F, P, A, f, l, a, b, u, kk, rfl, hI⟩ := hI
  obtain ⟨s1, s2, s3, s4, s5, hr, hA⟩ := hS.five i0 i1
  obtain ⟨a1, a2, a3, a4, a5⟩ := hA _ (hI.low.hp F P A f l a)
  have hk := k_owes x F P A f l a b hI.1.kq hr.1 hr.2.1
  obtain ⟨m1, m2, e1, e2, e3, e4, e5⟩ := hI.qq hk (M := f_X2_owes (some (x + 8)) (ii s1) (ii s2)) (fun F A => MO.of (m_owes x F P A f l a b hr.1 hr.2.1 hI.hm)) (it_n4 _)
  obtain ⟨c1, c2, c3, c4, c5⟩ := hA _ e3
  refine ⟨n, k, m2, ?_, e5, by omega⟩
  unfold f_L_law_J1189 f_L_law_J2125
  simp only [a1, a2, a3, a4, a5, c1, c2, c3, c4, c5, ok0, e1, e2, e4, Option.bind_some, bn2_some, if_true]
theorem t_1226 (hS : Sc x sc L xs b0) (hI : Inv x n g b0 m) (i0 : 0 ≤ i) (i1 : i + 6 ≤ L) : Gz x g b0 R i n k (f_L_law_J1226 g R (some sc) (some x) (some (x + 8)) (some (x + 24)) (ii i) n k m) := by
  obtain ⟨F, P, A, f, l, a, b, u, kk, rfl, hI⟩ := hI
  obtain ⟨s1, s2, s3, s4, s5, hr, hA⟩ := hS.five i0 i1
  obtain ⟨a1, a2, a3, a4, a5⟩ := hA _ (hI.low.hp F P A f l a)
  have hk := k_net x F P A f l a b hI.1.kq hr.1
  obtain ⟨m1, m2, e1, e2, e3, e4, e5⟩ := hI.qq hk (M := f_X2_net (some (x + 8)) (ii s1)) (fun F A => m_net x F P A f l a b hr.1 hI.hm) (it_n4 _)
  obtain ⟨c1, c2, c3, c4, c5⟩ := hA _ e3
  refine ⟨n, k, m2, ?_, e5, by omega⟩
  unfold f_L_law_J1226 f_L_law_J2125
  simp only [a1, a2, a3, a4, a5, c1, c2, c3, c4, c5, ok0, e1, e2, e4, Option.bind_some, bn2_some, if_true]
theorem t_1251 (hS : Sc x sc L xs b0) (hI : Inv x n g b0 m) (i0 : 0 ≤ i) (i1 : i + 6 ≤ L) : Gz x g b0 R i n k (f_L_law_J1251 g R (some sc) (some x) (some (x + 8)) (some (x + 24)) (ii i) n k m) := by
  obtain ⟨F, P, A, f, l, a, b, u, kk, rfl, hI⟩ := hI
  obtain ⟨s1, s2, s3, s4, s5, hr, hA⟩ := hS.five i0 i1
  obtain ⟨a1, a2, a3, a4, a5⟩ := hA _ (hI.low.hp F P A f l a)
  have hk := k_due x F P A f l a b hI.1.kq 
  obtain ⟨m1, m2, e1, e2, e3, e4, e5⟩ := hI.qq hk (M := f_X2_due (some (x + 8)) ) (fun F A => m_due x F P A f l a b  hI.hm) (it_n4 _)
  obtain ⟨c1, c2, c3, c4, c5⟩ := hA _ e3
  refine ⟨n, k, m2, ?_, e5, by omega⟩
  unfold f_L_law_J1251 f_L_law_J2125
  simp only [a1, a2, a3, a4, a5, c1, c2, c3, c4, c5, ok0, e1, e2, e4, Option.bind_some, bn2_some, if_true]
theorem t_1264 (hS : Sc x sc L xs b0) (hI : Inv x n g b0 m) (i0 : 0 ≤ i) (i1 : i + 6 ≤ L) : Gz x g b0 R i n k (f_L_law_J1264 g R (some sc) (some x) (some (x + 8)) (some (x + 24)) (ii i) n k m) := by
  obtain ⟨F, P, A, f, l, a, b, u, kk, rfl, hI⟩ := hI
  obtain ⟨s1, s2, s3, s4, s5, hr, hA⟩ := hS.five i0 i1
  obtain ⟨a1, a2, a3, a4, a5⟩ := hA _ (hI.low.hp F P A f l a)
  have hk := k_creditor x F P A f l a b hI.1.kq 
  obtain ⟨m1, m2, e1, e2, e3, e4, e5⟩ := hI.qq hk (M := f_X2_creditor (some (x + 8)) ) (fun F A => m_creditor x F P A f l a b  hI.hm) (it_n4 _)
  obtain ⟨c1, c2, c3, c4, c5⟩ := hA _ e3
  refine ⟨n, k, m2, ?_, e5, by omega⟩
  unfold f_L_law_J1264 f_L_law_J2125
  simp only [a1, a2, a3, a4, a5, c1, c2, c3, c4, c5, ok0, e1, e2, e4, Option.bind_some, bn2_some, if_true]
theorem t_1277 (hS : Sc x sc L xs b0) (hI : Inv x n g b0 m) (i0 : 0 ≤ i) (i1 : i + 6 ≤ L) : Gz x g b0 R i n k (f_L_law_J1277 g R (some sc) (some x) (some (x + 8)) (some (x + 24)) (ii i) n k m) := by
  obtain ⟨F, P, A, f, l, a, b, u, kk, rfl, hI⟩ := hI
  obtain ⟨s1, s2, s3, s4, s5, hr, hA⟩ := hS.five i0 i1
  obtain ⟨a1, a2, a3, a4, a5⟩ := hA _ (hI.low.hp F P A f l a)
  have hk := k_payments x F P A f l a b hI.1.kq 
  obtain ⟨m1, m2, e1, e2, e3, e4, e5⟩ := hI.qq hk (M := f_X2_payments (some (x + 8)) ) (fun F A => m_payments x F P A f l a b  hI.hm) (it_n4 _)
  obtain ⟨c1, c2, c3, c4, c5⟩ := hA _ e3
  refine ⟨n, k, m2, ?_, e5, by omega⟩
  unfold f_L_law_J1277 f_L_law_J2125
  simp only [a1, a2, a3, a4, a5, c1, c2, c3, c4, c5, ok0, e1, e2, e4, Option.bind_some, bn2_some, if_true]
theorem t_1290 (hS : Sc x sc L xs b0) (hI : Inv x n g b0 m) (i0 : 0 ≤ i) (i1 : i + 6 ≤ L) : Gz x g b0 R i n k (f_L_law_J1290 g R (some sc) (some x) (some (x + 8)) (some (x + 24)) (ii i) n k m) := by
  obtain ⟨F, P, A, f, l, a, b, u, kk, rfl, hI⟩ := hI
  obtain ⟨s1, s2, s3, s4, s5, hr, hA⟩ := hS.five i0 i1
  obtain ⟨a1, a2, a3, a4, a5⟩ := hA _ (hI.low.hp F P A f l a)
  have hk := k_ring x F P A f l a b hI.1.kq hr.1
  obtain ⟨m1, m2, e1, e2, e3, e4, e5⟩ := hI.qq hk (M := f_X2_ring (some (x + 8)) (ii s1)) (fun F A => m_ring x F P A f l a b hr.1 hI.hm) (it_n4 _)
  obtain ⟨c1, c2, c3, c4, c5⟩ := hA _ e3
  refine ⟨n, k, m2, ?_, e5, by omega⟩
  unfold f_L_law_J1290 f_L_law_J2125
  simp only [a1, a2, a3, a4, a5, c1, c2, c3, c4, c5, ok0, e1, e2, e4, Option.bind_some, bn2_some, if_true]
theorem t_1315 (hS : Sc x sc L xs b0) (hI : Inv x n g b0 m) (i0 : 0 ≤ i) (i1 : i + 6 ≤ L) : Gz x g b0 R i n k (f_L_law_J1315 g R (some sc) (some x) (some (x + 8)) (some (x + 24)) (ii i) n k m) := by
  obtain ⟨F, P, A, f, l, a, b, u, kk, rfl, hI⟩ := hI
  obtain ⟨s1, s2, s3, s4, s5, hr, hA⟩ := hS.five i0 i1
  obtain ⟨a1, a2, a3, a4, a5⟩ := hA _ (hI.low.hp F P A f l a)
  have hk := k_ringAt x F P A f l a b hI.1.kq hr.1 hr.2.1
  obtain ⟨m1, m2, e1, e2, e3, e4, e5⟩ := hI.qq hk (M := f_X2_ringAt (some (x + 8)) (ii s1) (ii s2)) (fun F A => m_ringAt x F P A f l a b hr.1 hr.2.1 hI.hm) (it_n4 _)
  obtain ⟨c1, c2, c3, c4, c5⟩ := hA _ e3
  refine ⟨n, k, m2, ?_, e5, by omega⟩
  unfold f_L_law_J1315 f_L_law_J2125
  simp only [a1, a2, a3, a4, a5, c1, c2, c3, c4, c5, ok0, e1, e2, e4, Option.bind_some, bn2_some, if_true]
theorem t_1352 (hS : Sc x sc L xs b0) (hI : Inv x n g b0 m) (i0 : 0 ≤ i) (i1 : i + 6 ≤ L) : Gz x g b0 R i n k (f_L_law_J1352 g R (some sc) (some x) (some (x + 8)) (some (x + 24)) (ii i) n k m) := by
  obtain ⟨F, P, A, f, l, a, b, u, kk, rfl, hI⟩ := hI
  obtain ⟨s1, s2, s3, s4, s5, hr, hA⟩ := hS.five i0 i1
  obtain ⟨a1, a2, a3, a4, a5⟩ := hA _ (hI.low.hp F P A f l a)
  have hk := k_talks x F P A f l a b hI.1.kq (if ii s2 = 0 then (0 : Int32) else 1) (if ii s3 = 0 then (0 : Int32) else 1) (if ii s4 = 0 then (0 : Int32) else 1) hr.1
  obtain ⟨m1, m2, e1, e2, e3, e4, e5⟩ := hI.qq hk (M := f_X2_talks (some (x + 8)) (ii s1) (if ii s2 = 0 then (0 : Int32) else 1) (if ii s3 = 0 then (0 : Int32) else 1) (if ii s4 = 0 then (0 : Int32) else 1)) (fun F A => m_talks x F P A f l a b (if ii s2 = 0 then (0 : Int32) else 1) (if ii s3 = 0 then (0 : Int32) else 1) (if ii s4 = 0 then (0 : Int32) else 1) hr.1 hI.hm) (wy_n4 _ _)
  obtain ⟨c1, c2, c3, c4, c5⟩ := hA _ e3
  refine ⟨n, k, m2, ?_, e5, by omega⟩
  unfold f_L_law_J1352 f_L_law_J2125
  simp only [a1, a2, a3, a4, a5, c1, c2, c3, c4, c5, ok0, e1, e2, e4, Option.bind_some, bn2_some, if_true]
theorem t_1461 (hS : Sc x sc L xs b0) (hI : Inv x n g b0 m) (i0 : 0 ≤ i) (i1 : i + 6 ≤ L) : Gz x g b0 R i n k (f_L_law_J1461 g R (some sc) (some x) (some (x + 8)) (some (x + 24)) (ii i) n k m) := by
  obtain ⟨F, P, A, f, l, a, b, u, kk, rfl, hI⟩ := hI
  obtain ⟨s1, s2, s3, s4, s5, hr, hA⟩ := hS.five i0 i1
  obtain ⟨a1, a2, a3, a4, a5⟩ := hA _ (hI.low.hp F P A f l a)
  have hk := k_rests x F P A f l a b hI.1.kq hr.1
  obtain ⟨m1, m2, e1, e2, e3, e4, e5⟩ := hI.qq hk (M := f_X2_rests (some (x + 8)) (ii s1)) (fun F A => m_rests x F P A f l a b hr.1 hI.hm) (wy_n4 _ _)
  obtain ⟨c1, c2, c3, c4, c5⟩ := hA _ e3
  refine ⟨n, k, m2, ?_, e5, by omega⟩
  unfold f_L_law_J1461 f_L_law_J2125
  simp only [a1, a2, a3, a4, a5, c1, c2, c3, c4, c5, ok0, e1, e2, e4, Option.bind_some, bn2_some, if_true]
theorem t_1486 (hS : Sc x sc L xs b0) (hI : Inv x n g b0 m) (i0 : 0 ≤ i) (i1 : i + 6 ≤ L) : Gz x g b0 R i n k (f_L_law_J1486 g R (some sc) (some x) (some (x + 8)) (some (x + 24)) (ii i) n k m) := by
  obtain ⟨F, P, A, f, l, a, b, u, kk, rfl, hI⟩ := hI
  obtain ⟨s1, s2, s3, s4, s5, hr, hA⟩ := hS.five i0 i1
  obtain ⟨a1, a2, a3, a4, a5⟩ := hA _ (hI.low.hp F P A f l a)
  have hk := k_rest x F P A f l a b hI.1.kq hr.1
  obtain ⟨m1, m2, e1, e2, e3, e4, e5⟩ := hI.qq hk (M := f_X2_rest (some (x + 8)) (ii s1)) (fun F A => m_rest x F P A f l a b hr.1 hI.hm) (wy_n4 _ _)
  obtain ⟨c1, c2, c3, c4, c5⟩ := hA _ e3
  refine ⟨n, k, m2, ?_, e5, by omega⟩
  unfold f_L_law_J1486 f_L_law_J2125
  simp only [a1, a2, a3, a4, a5, c1, c2, c3, c4, c5, ok0, e1, e2, e4, Option.bind_some, bn2_some, if_true]
theorem t_1511 (hS : Sc x sc L xs b0) (hI : Inv x n g b0 m) (i0 : 0 ≤ i) (i1 : i + 6 ≤ L) : Gz x g b0 R i n k (f_L_law_J1511 g R (some sc) (some x) (some (x + 8)) (some (x + 24)) (ii i) n k m) := by
  obtain ⟨F, P, A, f, l, a, b, u, kk, rfl, hI⟩ := hI
  obtain ⟨s1, s2, s3, s4, s5, hr, hA⟩ := hS.five i0 i1
  obtain ⟨a1, a2, a3, a4, a5⟩ := hA _ (hI.low.hp F P A f l a)
  have hk := k_verdictOdds x F P A f l a b hI.1.kq (if ii s3 = 0 then (0 : Int32) else 1) hr.1 hr.2.1
  obtain ⟨m1, m2, e1, e2, e3, e4, e5⟩ := hI.ql hk (M := f_X2_verdictOdds (some (x + 8)) (ii s1) (ii s2) (if ii s3 = 0 then (0 : Int32) else 1)) (fun F A => m_verdictOdds x F P A f l a b (if ii s3 = 0 then (0 : Int32) else 1) hr.1 hr.2.1 hI.hm) (wy_n4 _ _)
  obtain ⟨c1, c2, c3, c4, c5⟩ := hA _ e3
  refine ⟨n, k, m2, ?_, e5, by omega⟩
  unfold f_L_law_J1511 f_L_law_J2125
  simp only [a1, a2, a3, a4, a5, c1, c2, c3, c4, c5, ok0, e1, e2, e4, Option.bind_some, bn2_some, cmp_self, if_true]
theorem t_1577 (hS : Sc x sc L xs b0) (hI : Inv x n g b0 m) (i0 : 0 ≤ i) (i1 : i + 6 ≤ L) : Gz x g b0 R i n k (f_L_law_J1577 g R (some sc) (some x) (some (x + 8)) (some (x + 24)) (ii i) n k m) := by
  obtain ⟨F, P, A, f, l, a, b, u, kk, rfl, hI⟩ := hI
  obtain ⟨s1, s2, s3, s4, s5, hr, hA⟩ := hS.five i0 i1
  obtain ⟨a1, a2, a3, a4, a5⟩ := hA _ (hI.low.hp F P A f l a)
  have hk := k_looks x F P A f l a b hI.1.kq hr.1 hr.2.1 hr.2.2.1
  obtain ⟨m1, m2, e1, e2, e3, e4, e5⟩ := hI.qq hk (M := f_X2_looks (some (x + 8)) (ii s1) (ii s2) (ii s3)) (fun F A => m_looks x F P A f l a b hr.1 hr.2.1 hr.2.2.1 hI.hm) (wl_n4 _ _ _)
  obtain ⟨c1, c2, c3, c4, c5⟩ := hA _ e3
  refine ⟨n, k, m2, ?_, e5, by omega⟩
  unfold f_L_law_J1577 f_L_law_J2125
  simp only [a1, a2, a3, a4, a5, c1, c2, c3, c4, c5, ok0, e1, e2, e4, Option.bind_some, bn2_some, if_true]
theorem t_1626 (hS : Sc x sc L xs b0) (hI : Inv x n g b0 m) (i0 : 0 ≤ i) (i1 : i + 6 ≤ L) : Gz x g b0 R i n k (f_L_law_J1626 g R (some sc) (some x) (some (x + 8)) (some (x + 24)) (ii i) n k m) := by
  obtain ⟨F, P, A, f, l, a, b, u, kk, rfl, hI⟩ := hI
  obtain ⟨s1, s2, s3, s4, s5, hr, hA⟩ := hS.five i0 i1
  obtain ⟨a1, a2, a3, a4, a5⟩ := hA _ (hI.low.hp F P A f l a)
  have hk := k_verdict x F P A f l a b hI.1.kq hr.1 hr.2.1
  obtain ⟨m1, m2, e1, e2, e3, e4, e5⟩ := hI.qq hk (M := f_X2_verdict (some (x + 8)) (ii s1) (ii s2)) (fun F A => m_verdict x F P A f l a b hr.1 hr.2.1 hI.hm) (wl_n4 _ _ _)
  obtain ⟨c1, c2, c3, c4, c5⟩ := hA _ e3
  refine ⟨n, k, m2, ?_, e5, by omega⟩
  unfold f_L_law_J1626 f_L_law_J2125
  simp only [a1, a2, a3, a4, a5, c1, c2, c3, c4, c5, ok0, e1, e2, e4, Option.bind_some, bn2_some, if_true]
theorem t_1663 (hS : Sc x sc L xs b0) (hI : Inv x n g b0 m) (i0 : 0 ≤ i) (i1 : i + 6 ≤ L) : Gz x g b0 R i n k (f_L_law_J1663 g R (some sc) (some x) (some (x + 8)) (some (x + 24)) (ii i) n k m) := by
  obtain ⟨F, P, A, f, l, a, b, u, kk, rfl, hI⟩ := hI
  obtain ⟨s1, s2, s3, s4, s5, hr, hA⟩ := hS.five i0 i1
  obtain ⟨a1, a2, a3, a4, a5⟩ := hA _ (hI.low.hp F P A f l a)
  have hk := k_odds x F P A f l a b hI.1.kq (if ii s4 = 0 then (0 : Int32) else 1) hr.1 hr.2.1 hr.2.2.1
  obtain ⟨m1, m2, e1, e2, e3, e4, e5⟩ := hI.ql hk (M := f_X2_odds (some (x + 8)) (ii s1) (ii s2) (ii s3) (if ii s4 = 0 then (0 : Int32) else 1)) (fun F A => m_odds x F P A f l a b (if ii s4 = 0 then (0 : Int32) else 1) hr.1 hr.2.1 hr.2.2.1 hI.hm) (wy_n4 _ _)
  obtain ⟨c1, c2, c3, c4, c5⟩ := hA _ e3
  refine ⟨n, k, m2, ?_, e5, by omega⟩
  unfold f_L_law_J1663 f_L_law_J2125
  simp only [a1, a2, a3, a4, a5, c1, c2, c3, c4, c5, ok0, e1, e2, e4, Option.bind_some, bn2_some, cmp_self, if_true]
theorem t_1741 (hS : Sc x sc L xs b0) (hI : Inv x n g b0 m) (i0 : 0 ≤ i) (i1 : i + 6 ≤ L) : Gz x g b0 R i n k (f_L_law_J1741 g R (some sc) (some x) (some (x + 8)) (some (x + 24)) (ii i) n k m) := by
  obtain ⟨F, P, A, f, l, a, b, u, kk, rfl, hI⟩ := hI
  obtain ⟨s1, s2, s3, s4, s5, hr, hA⟩ := hS.five i0 i1
  obtain ⟨a1, a2, a3, a4, a5⟩ := hA _ (hI.low.hp F P A f l a)
  have hk := k_mean x F P A f l a b hI.1.kq (if ii s3 = 0 then (0 : Int32) else 1) hr.1 hr.2.1
  obtain ⟨m1, m2, e1, e2, e3, e4, e5⟩ := hI.ql hk (M := f_X2_mean (some (x + 8)) (ii s1) (ii s2) (if ii s3 = 0 then (0 : Int32) else 1)) (fun F A => m_mean x F P A f l a b (if ii s3 = 0 then (0 : Int32) else 1) hr.1 hr.2.1 hI.hm) (wy_n4 _ _)
  obtain ⟨c1, c2, c3, c4, c5⟩ := hA _ e3
  refine ⟨n, k, m2, ?_, e5, by omega⟩
  unfold f_L_law_J1741 f_L_law_J2125
  simp only [a1, a2, a3, a4, a5, c1, c2, c3, c4, c5, ok0, e1, e2, e4, Option.bind_some, bn2_some, cmp_self, if_true]
theorem t_1807 (hS : Sc x sc L xs b0) (hI : Inv x n g b0 m) (i0 : 0 ≤ i) (i1 : i + 6 ≤ L) : Gz x g b0 R i n k (f_L_law_J1807 g R (some sc) (some x) (some (x + 8)) (some (x + 24)) (ii i) n k m) := by
  obtain ⟨F, P, A, f, l, a, b, u, kk, rfl, hI⟩ := hI
  obtain ⟨s1, s2, s3, s4, s5, hr, hA⟩ := hS.five i0 i1
  obtain ⟨a1, a2, a3, a4, a5⟩ := hA _ (hI.low.hp F P A f l a)
  have hk := k_drawn x F P A f l a b hI.1.kq hr.1 hr.2.1 hr.2.2.1
  obtain ⟨m1, m2, e1, e2, e3, e4, e5⟩ := hI.qq hk (M := f_X2_drawn (some (x + 8)) (ii s1) (ii s2) (ii s3)) (fun F A => m_drawn x F P A f l a b hr.1 hr.2.1 hr.2.2.1 hI.hm) (wy_n4 _ _)
  obtain ⟨c1, c2, c3, c4, c5⟩ := hA _ e3
  refine ⟨n, k, m2, ?_, e5, by omega⟩
  unfold f_L_law_J1807 f_L_law_J2125
  simp only [a1, a2, a3, a4, a5, c1, c2, c3, c4, c5, ok0, e1, e2, e4, Option.bind_some, bn2_some, if_true]
end STQ
