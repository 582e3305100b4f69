/-! PLAIN 68: the component's lines: pier, contract, unsure -/
set_option maxRecDepth 100000
section LNS
variable {g : Nat → Nat} {r tp : Nat} {T : Int → Int} {n : Int} {m : fk_M} {N : Nat} {t : Tkn} {e : Er} {φ ψ : Int → Int}
theorem Fs.rm {kk : Nat} {m' : fk_M} {N' k' : Nat} {t' : Tkn} (h : Fs r n m N kk t m' N' k' t') {m2 : fk_M} (hl : Lo r m' m2) : Rm r n m N kk t m2 N' k' t' := ⟨by have := h.1; omega, h.2.2.tr hl⟩
theorem PR.pier (h : PR g m r φ ψ) (hF : FI φ ψ) (h7 : φ 7 = 0) (w d : Int) : ∃ m1 m2, pV m (some (r + 2)) 4 0 (tI (ii w)) = some m1 ∧ Up r 4 m m1 ∧ pV m1 (some (r + 2)) 4 1 (tI (ii d)) = some m2 ∧ Up r 4 m1 m2 ∧ PR g m2 r (su1 (su1 (su1 φ 0 w) 1 d) 7 1) ψ := by
  obtain ⟨q, lw, hk, dk, du, dv, e4, e5, e6, g4, g5, g6, a0, ⟨V, v1, v2, v3, v4, v5, v6, v7, v8, v9⟩, ⟨a2, a3, a4⟩, a5, a6, a7, a8, a9, a10, a11⟩ := h
  have hz : φ 0 = 0 ∧ φ 2 = 0 ∧ φ 4 = 0 ∧ φ 5 = 0 ∧ φ 6 = 0 := by
    rcases hF.2.2.1 with hh | hh
    · exact hh.2
    · omega
  obtain ⟨φ', hφ⟩ : ∃ φ', φ' = su1 (su1 (su1 φ 0 w) 1 d) 7 1 := ⟨_, rfl⟩
  have hn : ∀ j, j ≠ 0 → j ≠ 1 → j ≠ 7 → φ' j = φ j := fun j j0 j1 j7 => by rw [hφ, su1_n _ _ j7, su1_n _ _ j1, su1_n _ _ j0]
  have n0 : φ' 0 = w := by rw [hφ, su1_n _ _ (by omega), su1_n _ _ (by omega), su1_e]
  have n1 : φ' 1 = d := by rw [hφ, su1_n _ _ (by omega), su1_e]
  have n7 : φ' 7 = 1 := by rw [hφ, su1_e]
  have n2 := hn 2 (by omega) (by omega) (by omega)
  have n3 := hn 3 (by omega) (by omega) (by omega)
  have n4 := hn 4 (by omega) (by omega) (by omega)
  have n5 := hn 5 (by omega) (by omega) (by omega)
  have n6 := hn 6 (by omega) (by omega) (by omega)
  have u1 : Up r 4 m (fk_up m (r + 2) (oB 4 (fk_set V 0 (tI (ii w))))) := Up.of 4 _ v1 rfl (by decide) (by decide) (by omega)
  have u2 : Up r 4 (fk_up m (r + 2) (oB 4 (fk_set V 0 (tI (ii w))))) (fk_up (fk_up m (r + 2) (oB 4 (fk_set V 0 (tI (ii w))))) (r + 2) (oB 4 (fk_set (fk_set V 0 (tI (ii w))) 1 (tI (ii d))))) := Up.of 4 _ (up_eq ..) rfl (by decide) (by decide) (by omega)
  refine ⟨_, _, pV_of 0 _ v1, u1, pV_of 1 _ (up_eq ..), u2, ?_⟩
  rw [← hφ]
  refine ⟨q, lw, hk, dk, du, dv, e4, e5, e6, g4, g5, g6, a0, ⟨_, up_eq .., ?_, ?_, ?_, ?_, v6, v7, v8, v9⟩, ⟨?_, ?_, ?_⟩, ?_, ?_, fun p p0 p1 => ?_, fun p p' p0 p1 => ?_, fun k k0 k1 => ?_, fun k k0 k1 => ?_, fun p p' p0 p1 p2 p3 hp => ?_⟩
  · rw [n7, if_neg (by decide), n0]
    rfl
  · rw [n1]
    rfl
  · rw [n3]
    exact v4
  · rw [n5]
    exact v5
  · rw [n2]
    exact (a2.kt u1.1 (by decide) (by decide)).kt u2.1 (by decide) (by decide)
  · rw [n4]
    exact (a3.kt u1.1 (by decide) (by decide)).kt u2.1 (by decide) (by decide)
  · rw [n6]
    exact (a4.kt u1.1 (by decide) (by decide)).kt u2.1 (by decide) (by decide)
  · rw [n2, n4, n6]
    exact a5
  · exact ((a6.kt u1.1 (by decide)).kt u2.1 (by decide)).cg n5 (fun k k0 k1 => by omega)
  · omega
  · omega
  · omega
  · omega
  · obtain ⟨k, k0, k1, -⟩ := a11 p p' p0 p1 p2 p3 hp
    omega
theorem r_pierLine (h : SS g r tp T n m N t e) (kk : Nat) (hP : PR g m r φ ψ) (hF : FI φ ψ) : LN g r tp T n m N kk t e (aPier T n (t, φ, ψ)) (f_X3_pierLine g (some r) N kk m) := by
  have h7' : φ 7 = 0 ∨ φ 7 = 1 := by
    rcases hF.2.2.1 with hh | hh
    · exact Or.inl hh.1
    · exact Or.inr hh.1
  obtain ⟨m1, e1, a1, a2, s1, f1, h1⟩ := o_chk h kk (φ 7 ≤ 0) (k := 3) (by omega)
  obtain ⟨N2, k2, m2, t2, b1, s2, f2, b4⟩ := o_on s1 kk
  obtain ⟨N3, k3, m3, t3, e3, v, c1, s3, f3, c4⟩ := o_part s2 k2 (lo := 2) (hi := 99) (i := 8) (by omega) (by omega) (by omega)
  obtain ⟨N4, k4, m4, t4, e4, d, d1, s4, f4, d4⟩ := o_part s3 k3 (lo := 0) (hi := 100) (i := 9) (by omega) (by omega) (by omega)
  have hf := ((f1.tr f2).tr f3).tr f4
  have hL : Lv (aPier T n (t, φ, ψ)) (t4, su1 (su1 (su1 φ 0 v) 1 d) 7 1, ψ) e e4 := by
    unfold aPier
    refine Lv.ite (k := 3) (p := t.2.1) (by omega) h1 ?_
    exact (c4.cg (ρ' := aPt T n (kw 8) 2 99 (aOn T n t)) (v' := (v, t3)) (fun h0 => ⟨by rw [b4 h0], rfl⟩)).bind (d4.bind (Lv.ok _ _))
  have hj : ∀ res, (f_X3_pierLine_J16 g (some r) N kk m1 = res) → f_X3_pierLine g (some r) N kk m = res := by
    intro res hres
    obtain ⟨V, v1, v2, -⟩ := hP.pq
    unfold f_X3_pierLine
    rw [h.pi, Option.bind_some, gI_of v1 v2, Option.bind_some]
    by_cases h7 : φ 7 = 0
    · rw [if_pos h7, if_pos (show ii (-1) = -1 from rfl), ← hres, a1 (by omega)]
    · have hw : 2 ≤ φ 0 ∧ φ 0 ≤ 99 := by
        rcases hF.2.2.1 with hh | hh
        · exact absurd hh.1 h7
        · exact hh.2.1
      rw [if_neg h7, if_neg (show ¬ ii (φ 0) = -1 by rw [show (-1 : Int32) = ii (-1) from rfl, ii_eq (by omega) (by omega)]; omega), h.o, Option.bind_some, show (3 : Int32) = ii 3 from rfl, a2 (by omega), Option.bind_some, hres]
  by_cases h4 : e4.1 = 0
  · have hl1 := (hL.live h4).2
    have h70 : φ 7 = 0 := by
      unfold aPier at hl1
      by_cases hh : φ 7 ≤ 0
      · omega
      · rw [if_neg (show ¬ ((t, φ, ψ) : Ls).2.1 7 ≤ 0 from hh)] at hl1
        cases hl1
    obtain ⟨m5, m6, g1, u1, g2, u2, hP'⟩ := (hP.kp hF hf.2.1).pier hF h70 v d
    have s5 := s4.up u1 (by decide) (by decide) (by decide) (by decide)
    have s6 := s5.up u2 (by decide) (by decide) (by decide) (by decide)
    refine ⟨N4, k4, m6, t4, e4, _, hj _ ?_, s6, hf.rm (u1.lo.tr u2.lo), hL, fun _ => ⟨rfl, hP'⟩, fun h0 => absurd h4 h0⟩
    unfold f_X3_pierLine_J16
    rw [s1.o, Option.bind_some, b1, bn3_some, s2.o, Option.bind_some, show (2 : Int32) = ii 2 from rfl, show (99 : Int32) = ii 99 from rfl, c1, bn4_some, s3.o, Option.bind_some, show (0 : Int32) = ii 0 from rfl, show (100 : Int32) = ii 100 from rfl, d1, bn4_some, s4.o, Option.bind_some, s4.ov, Option.bind_some, if_pos h4, if_pos (show (0 : Int32) = ii 0 from rfl), s4.pi, Option.bind_some, g1, Option.bind_some, s5.pi, Option.bind_some, g2, Option.bind_some]
  · refine ⟨N4, k4, m4, t4, e4, _, hj _ ?_, s4, hf.rm (Lo.rfl' _ _), hL, fun h0 => absurd h0 h4, fun _ => hf.2.1⟩
    unfold f_X3_pierLine_J16
    rw [s1.o, Option.bind_some, b1, bn3_some, s2.o, Option.bind_some, show (2 : Int32) = ii 2 from rfl, show (99 : Int32) = ii 99 from rfl, c1, bn4_some, s3.o, Option.bind_some, show (0 : Int32) = ii 0 from rfl, show (100 : Int32) = ii 100 from rfl, d1, bn4_some, s4.o, Option.bind_some, s4.ov, Option.bind_some, if_neg h4, if_neg (show ¬ (1 : Int32) = ii 0 by decide)]
/-- a contract is kept -/
theorem PR.con (h : PR g m r φ ψ) (hF : FI φ ψ) {p : Int} (p0 : 0 ≤ p) (p1 : p < φ 2) (v : Int) : ∃ qv m1 m2, gR m (some (r + 2)) 4 4 = some (some (r + 3)) ∧ isO m (some (r + 3)) 14 = some () ∧ f_J2_get (some (r + 3)) (ii p) m = some (some qv) ∧ cst m (some qv) 6 = some () ∧ pV m (some qv) 6 4 (tI (ii v)) = some m1 ∧ Up r 6 m m1 ∧ gI m1 (some (r + 2)) 4 2 = some (ii (φ 3)) ∧ pV m1 (some (r + 2)) 4 2 (tI (ii (φ 3 + 1))) = some m2 ∧ Up r 4 m1 m2 ∧ PR g m2 r (su1 (su1 φ (13 + p) v) 3 (φ 3 + 1)) ψ := by
  obtain ⟨q, lw, hk, dk, du, dv, e4, e5, e6, g4, g5, g6, a0, ⟨V, v1, v2, v3, v4, v5, v6, v7, v8, v9⟩, ⟨a2, a3, a4⟩, a5, a6, a7, a8, a9, a10, a11⟩ := h
  have r2 := hF.2.2.2.1
  have r5 := hF.2.2.2.2.2.2.1
  have r6 := hF.2.2.2.2.2.2.2.1
  have r9 := hF.2.2.2.2.2.2.2.2.1
  obtain ⟨φ', hφ⟩ : ∃ φ', φ' = su1 (su1 φ (13 + p) v) 3 (φ 3 + 1) := ⟨_, rfl⟩
  have hn : ∀ j, j ≠ 3 → j ≠ 13 + p → φ' j = φ j := fun j j0 j1 => by rw [hφ, su1_n _ _ j0, su1_n _ _ j1]
  have n3 : φ' 3 = φ 3 + 1 := by rw [hφ, su1_e]
  have np : φ' (13 + p) = v := by rw [hφ, su1_n _ _ (by omega), su1_e]
  obtain ⟨c1, ⟨b0, W, s, wd, w1, w2, w3, w4, w5, w6, w7, w8, w9, w10⟩, b1, L, l1, l2⟩ := a7 p p0 p1
  have hq2 : q p ≠ r + 2 := fun e => by
    rw [e, v1] at w1
    cases w1
  obtain ⟨m1, hm1⟩ : ∃ m1, m1 = fk_up m (q p) (oB 6 (fk_set W 4 (tI (ii v)))) := ⟨_, rfl⟩
  have v1' : m1 (r + 2) = some (true, oB 4 V) := by rw [hm1]; exact (up_ne _ _ (fun e => hq2 e.symm)).trans v1
  obtain ⟨m2, hm2⟩ : ∃ m2, m2 = fk_up m1 (r + 2) (oB 4 (fk_set V 2 (tI (ii (φ 3 + 1))))) := ⟨_, rfl⟩
  have u1 : Up r 6 m m1 := by rw [hm1]; exact Up.of 6 _ w1 rfl (by decide) (by decide) b0
  have u2 : Up r 4 m1 m2 := by rw [hm2]; exact Up.of 4 _ v1' rfl (by decide) (by decide) (by omega)
  refine ⟨q p, m1, m2, gR_of v1 v6, a2.sz.1, by rw [a2.get p0 p1, c1], cst_of w1, by rw [hm1]; exact pV_of 4 _ w1, u1, gI_of v1' v4, by rw [hm2]; exact pV_of 2 _ v1', u2, ?_⟩
  rw [← hφ]
  have hU : ∀ k : Int, 0 ≤ k → k < φ 5 → φ' (18 + 2 * k) = φ (18 + 2 * k) ∧ φ' (18 + 2 * k + 1) = φ (18 + 2 * k + 1) := fun k k0 k1 => ⟨hn _ (by omega) (by omega), hn _ (by omega) (by omega)⟩
  refine ⟨q, lw, hk, dk, du, dv, e4, e5, e6, g4, g5, g6, a0, ⟨fk_set V 2 (tI (ii (φ 3 + 1))), by rw [hm2]; exact up_eq .., ?_, ?_, ?_, ?_, v6, v7, v8, v9⟩, ⟨?_, ?_, ?_⟩, ?_, ?_, fun j j0 j1 => ?_, fun j j' j0 j1 j2 j3 => ?_, fun k k0 k1 => ?_, fun k k0 k1 => ?_, fun j j' j0 j1 j2 j3 hj => ?_⟩
  · rw [hn 7 (by omega) (by omega), hn 0 (by omega) (by omega)]
    exact v2
  · rw [hn 1 (by omega) (by omega)]
    exact v3
  · rw [n3]
    rfl
  · rw [hn 5 (by omega) (by omega)]
    exact v5
  · rw [hn 2 (by omega) (by omega)]
    exact (a2.kt u1.1 (by decide) (by decide)).kt u2.1 (by decide) (by decide)
  · rw [hn 4 (by omega) (by omega)]
    exact (a3.kt u1.1 (by decide) (by decide)).kt u2.1 (by decide) (by decide)
  · rw [hn 6 (by omega) (by omega)]
    exact (a4.kt u1.1 (by decide) (by decide)).kt u2.1 (by decide) (by decide)
  · rw [hn 2 (by omega) (by omega), hn 4 (by omega) (by omega), hn 6 (by omega) (by omega)]
    exact a5
  · exact ((a6.kt u1.1 (by decide)).kt u2.1 (by decide)).cg (hn 5 (by omega) (by omega)) (fun k k0 k1 => (hU k k0 k1).1)
  · rw [hn 2 (by omega) (by omega)] at j1
    refine ⟨(a7 j j0 j1).1, ?_⟩
    by_cases hjp : j = p
    · subst hjp
      have l1' : m2 (lw j) = some (true, oB (7 + (φ (8 + j)).toNat) L) := by
        have := (r9 j j0 j1).1
        exact u2.1.o (u1.1.o l1 (by show ¬ 7 + (φ (8 + j)).toNat = 6; omega)) (by show ¬ 7 + (φ (8 + j)).toNat = 4; omega)
      have w1' : m2 (q j) = some (true, oB 6 (fk_set W 4 (tI (ii v)))) := by
        rw [hm2]
        exact (up_ne _ _ hq2).trans (by rw [hm1]; exact up_eq ..)
      obtain ⟨x1, x2, x3, x4⟩ := w4
      have x0 := x1.1
      refine ⟨⟨b0, _, s, wd, w1', w2, u2.1.2 _ _ (u1.1.2 _ _ w3), ⟨x1, x2, by rw [hn _ (by omega) (by omega)]; exact x3, fun i hi => by rw [hn _ (by omega) (by omega)]; exact x4 i hi⟩, w5, w6, w7, by rw [np]; rfl, ?_, fun k k0 k1 k2 => ?_⟩, b1, L, by rw [hn _ (by omega) (by omega)]; exact l1', by rw [hn _ (by omega) (by omega)]; exact l2⟩
      · have hi := isU_cg (p := j) (hn 5 (by omega) (by omega)) (fun k k0 k1 => (hU k k0 k1).1)
        show W 6 = _
        rw [w9]
        by_cases hu : isU φ j
        · rw [if_pos hu, if_pos (hi.mpr hu)]
        · rw [if_neg hu, if_neg (fun hh => hu (hi.mp hh))]
      · rw [hn 5 (by omega) (by omega)] at k1
        rw [(hU k k0 k1).2]
        exact w10 k k0 k1 (by rw [← (hU k k0 k1).1]; exact k2)
    · have hqj : q j ≠ q p := fun e => hjp (a8 j p j0 j1 p0 p1 e)
      obtain ⟨X, x1⟩ := (a7 j j0 j1).2.c
      have hx2 : q j ≠ r + 2 := fun e => by
        rw [e, v1] at x1
        cases x1
      have y1 : m1 (q j) = m (q j) := by rw [hm1]; exact up_ne _ _ hqj
      have y2 : m2 (q j) = m1 (q j) := by rw [hm2]; exact up_ne _ _ hx2
      refine (((a7 j j0 j1).2.kt u1.1 y1 (r9 j j0 j1).1 (fun i i1 i2 => by show ¬ i = 6; omega)).kt u2.1 y2 (r9 j j0 j1).1 (fun i i1 i2 => by show ¬ i = 4; omega)).cg (fun t' ht' => hn t' (by omega) (by omega)) (hn 5 (by omega) (by omega)) hU ⟨rfl, rfl⟩
  · rw [hn 2 (by omega) (by omega)] at j1 j3
    exact a8 j j' j0 j1 j2 j3
  · rw [hn 6 (by omega) (by omega)] at k1
    exact ⟨(a9 k k0 k1).1, (((a9 k k0 k1).2.kt u1.1 (by decide)).kt u2.1 (by decide)).cg ⟨hn _ (by omega) (by omega), hn _ (by omega) (by omega), hn _ (by omega) (by omega)⟩⟩
  · rw [hn 4 (by omega) (by omega)] at k1
    refine ⟨(a10 k k0 k1).1, ?_⟩
    have := ((a10 k k0 k1).2.kt u1.1 (by decide)).kt u2.1 (by decide)
    exact ⟨this.1, by rw [hn 2 (by omega) (by omega)]; exact this.2⟩
  · rw [hn 4 (by omega) (by omega)]
    exact a11 j j' j0 j1 j2 j3 hj
theorem r_contract (h : SS g r tp T n m N t e) (kk : Nat) (hP : PR g m r φ ψ) (hF : FI φ ψ) : LN g r tp T n m N kk t e ((aBeg T n True (t, φ, ψ)).bind (aCon T n)) (f_X3_contract g (some r) N kk m) := by
  obtain ⟨N1, k1, m1, t1, e1, a1, s1, f1, a4⟩ := o_begins h kk hP hF (a := -1) (b := 0) True (by decide)
  have hP1 := hP.kp hF f1.2.1
  obtain ⟨m2, e2, p, b1, s2, f2, b4⟩ := o_known s1 k1 hP1 hF
  have hP2 := hP1.kp hF f2.2.1
  obtain ⟨m3, e3, c1, c2, s3, f3, h3⟩ := o_chk2 s2 k1 (φ (13 + p) ≤ 0) (k := 3) (by omega)
  obtain ⟨N4, k4, m4, t4, d1, s4, f4, d4⟩ := o_on s3 k1
  obtain ⟨N5, k5, m5, t5, e5, v, x1, s5, f5, x4⟩ := o_part s4 k4 (lo := 1) (hi := 9) (i := 22) (by omega) (by omega) (by omega)
  have hf := (((f1.tr f2).tr f3).tr f4).tr f5
  have hL : Lv ((aBeg T n True (t, φ, ψ)).bind (aCon T n)) (t5, su1 (su1 φ (13 + p) v) 3 (φ 3 + 1), ψ) e e5 := by
    refine a4.bind ?_
    unfold aCon
    refine b4.bind ?_
    refine Lv.ite (k := 3) (p := t1.2.1) (by omega) h3 ?_
    exact (x4.cg (ρ' := aPt T n (kw 22) 1 9 (aOn T n t1)) (v' := (v, t5)) (fun h0 => ⟨by rw [d4 h0], rfl⟩)).bind (Lv.ok _ _)
  have hp : e2.1 = 0 → 0 ≤ p ∧ p < φ 2 := fun h0 => (kn_lt hF (b4.live h0).2).2
  have hj : ∀ res, (f_X3_contract_J43 g (some r) (ii p) N1 k1 m3 = res) → f_X3_contract g (some r) N kk m = res := by
    intro res hres
    unfold f_X3_contract
    rw [h.o, Option.bind_some, a1, bn3_some, s1.o, Option.bind_some, b1, bn2_some, s2.o, Option.bind_some, s2.ov, Option.bind_some]
    by_cases h0 : e2.1 = 0
    · obtain ⟨p0, p1⟩ := hp h0
      obtain ⟨qv, W, g1, g2, g3, g4, g5, -⟩ := hP2.at p0 p1
      have r13 := (hF.2.2.2.2.2.2.2.2.1 p p0 p1).2.1
      rw [if_pos h0, if_pos rfl, s2.pi, Option.bind_some, g1, Option.bind_some, g2, Option.bind_some, g3, Option.bind_some, cst_of g4, Option.bind_some, gI_of g4 g5, Option.bind_some]
      by_cases hc : φ (13 + p) ≤ 0
      · rw [if_pos (by rw [show (0 : Int32) = ii 0 from rfl, ii_le (by omega) (by omega)]; exact hc), ← c1 (Or.inr hc), hres]
      · rw [if_neg (by rw [show (0 : Int32) = ii 0 from rfl, ii_le (by omega) (by omega)]; exact hc), Option.bind_some, show (3 : Int32) = ii 3 from rfl, c2 h0 hc, Option.bind_some, hres]
    · rw [if_neg h0, if_neg (by decide), ← c1 (Or.inl h0), hres]
  have hrun : ∀ res, (f_X3_isOver (some r) m5).bind (fun z11 => if z11 = 0 then ((gR m5 (some r) 2 1).bind fun z12 => (gR m5 z12 4 4).bind fun z13 => (isO m5 z13 14).bind fun u14 => (f_J2_get z13 (ii p) m5).bind fun z15 => (cst m5 z15 6).bind fun _ => (pV m5 z15 6 4 (tI (ii v))).bind fun m16 => (gR m16 (some r) 2 1).bind fun z17 => (gI m16 z17 4 2).bind fun z18 => (pV m16 z17 4 2 (tI (z18 + 1))).bind fun m19 => some (N5, k5, m19)) else (some (N5, k5, m5))) = res → f_X3_contract_J43 g (some r) (ii p) N1 k1 m3 = res := by
    intro res hres
    unfold f_X3_contract_J43
    rw [s3.o, Option.bind_some, d1, bn3_some, s4.o, Option.bind_some, show (1 : Int32) = ii 1 from rfl, show (9 : Int32) = ii 9 from rfl, x1, bn4_some, s5.o, Option.bind_some]
    exact hres
  by_cases h5 : e5.1 = 0
  · have h4 : e3.1 = 0 := (x4.live h5).1
    have h20 : e2.1 = 0 := by
      by_cases hh : e2.1 = 0
      · exact hh
      · rw [if_neg (fun k => hh k.1)] at h3
        rw [← h3]
        exact h4
    obtain ⟨p0, p1⟩ := hp h20
    obtain ⟨qv, m6, m7, g1, g2, g3, g4, g5, u1, g6, g7, u2, hP'⟩ := (hP.kp hF hf.2.1).con hF p0 p1 v
    have s6 := s5.up u1 (by decide) (by decide) (by decide) (by decide)
    have s7 := s6.up u2 (by decide) (by decide) (by decide) (by decide)
    refine ⟨N5, k5, m7, t5, e5, _, hj _ (hrun _ ?_), s7, hf.rm (u1.lo.tr u2.lo), hL, fun _ => ⟨rfl, hP'⟩, fun h0 => absurd h5 h0⟩
    rw [s5.ov, Option.bind_some, if_pos h5, if_pos rfl, s5.pi, Option.bind_some, g1, Option.bind_some, g2, Option.bind_some, g3, Option.bind_some, g4, Option.bind_some, g5, Option.bind_some, s6.pi, Option.bind_some, g6, Option.bind_some, show (1 : Int32) = ii 1 from rfl, ii_add, g7, Option.bind_some]
  · refine ⟨N5, k5, m5, t5, e5, _, hj _ (hrun _ ?_), s5, hf.rm (Lo.rfl' _ _), hL, fun h0 => absurd h0 h5, fun _ => hf.2.1⟩
    rw [s5.ov, Option.bind_some, if_neg h5, if_neg (by decide)]
end LNS
