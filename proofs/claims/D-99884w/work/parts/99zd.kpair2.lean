/-! PLAIN 73: the component's lines: pair -/
set_option maxRecDepth 100000
theorem Kt.k3 {m m1 m2 : fk_M} (h : Kt kp3 m m1) (h' : Kt kp3 m1 m2) : Kt kp3 m m2 := (h.tr h').mono (fun _ hi => hi.elim id id)
theorem Kt.f3 {m m1 : fk_M} (h : Kt (fun _ => False) m m1) : Kt kp3 m m1 := h.mono (fun _ hi => hi.elim)
section LNQ
variable {g : Nat → Nat} {r tp : Nat} {T : Int → Int} {n : Int} {m : fk_M} {N : Nat} {t : Tkn} {e : Er} {φ ψ : Int → Int}
theorem r_pair (h : SS g r tp T n m N t e) (kk : Nat) (hP : PR g m r φ ψ) (hF : FI φ ψ) : LN g r tp T n m N kk t e ((aBeg T n (φ 2 < 5) (t, φ, ψ)).bind (aPair T n)) (f_X3_pair g (some r) N kk m) := by
  have r2 := hF.2.2.2.1
  have r7 : (φ 7 = 0 ∧ φ 0 = 0) ∨ (φ 7 = 1 ∧ 2 ≤ φ 0 ∧ φ 0 ≤ 99) := by
    rcases hF.2.2.1 with hh | hh
    · exact Or.inl ⟨hh.1, hh.2.1⟩
    · exact Or.inr ⟨hh.1, hh.2.1⟩
  obtain ⟨wd, hwd⟩ : ∃ wd, wd = if φ 7 = 0 then -1 else φ 0 := ⟨_, rfl⟩
  have rwd : -1 ≤ wd ∧ wd ≤ 99 := by
    rw [hwd]
    split <;> omega
  obtain ⟨N1, k1, m1, t1, e1, a1, s1, f1, a4⟩ := o_begins h kk hP hF (a := ii (φ 2)) (b := 5) (φ 2 < 5) (by rw [show (5 : Int32) = ii 5 from rfl, ne_eq, ii_eq (by omega) (by omega)]; omega)
  obtain ⟨z0, m2, b1, b2, b3, s2, f2⟩ := o_isName s1 k1
  obtain ⟨m3, e2, c1, c2, s3, f3, h3⟩ := o_chk s2 k1 (isNm t1) (k := 1) (by omega)
  have hP3 := hP.kp hF ((f1.tr f2).tr f3).2.1
  obtain ⟨m4, e3, d1, d2, s4, f4, h4⟩ := o_chk s3 k1 (¬ 0 ≤ fnd φ t1.2.2.2.2) (k := 3) (by omega)
  have f04 := ((f1.tr f2).tr f3).tr f4
  have hP4 := hP.kp hF f04.2.1
  have hN1 := s4.2.1 N1 (Nat.le_refl N1)
  have hrN := s4.2.2.2.2.1.2
  have h8 := s4.ok
  have sP : SS g r tp T n (fk_up m4 N1 (oB 6 (fk_V0 tyX7))) (N1 + 1) t1 e3 := s4.kt (Kt.up0 _ hN1) (fun h => h) (fun h => h) (fun h => h) (fun h => h) (by omega) (fun q hq => (up_ne _ _ (by omega)).trans (s4.2.1 q (by omega)))
  obtain ⟨z, g1, hK⟩ := sP.tk
  obtain ⟨-, -, -, -, s, g2, hS0⟩ := hK.at
  obtain ⟨W1, hW1⟩ : ∃ W1, W1 = fk_set (fk_V0 tyX7) 0 (tR (some s)) := ⟨_, rfl⟩
  obtain ⟨m5, hm5⟩ : ∃ m5, m5 = fk_up m4 N1 (oB 6 W1) := ⟨_, rfl⟩
  have g3 : f_X7_init (some N1) (some s) (fk_up m4 N1 (oB 6 (fk_V0 tyX7))) = some m5 := by
    unfold f_X7_init
    rw [show isS (some N1) = some () from rfl, Option.bind_some, pV_of 0 _ (up_eq ..), Option.bind_some, up_up, hm5, hW1]
  have kt5 : Kt (fun _ => False) m4 m5 := by rw [hm5]; exact Kt.up0 _ hN1
  have s5 : SS g r tp T n m5 (N1 + 1) t1 e3 := s4.kt kt5 (fun h => h) (fun h => h) (fun h => h) (fun h => h) (by omega) (fun q hq => by rw [hm5]; exact (up_ne _ _ (by omega)).trans (s4.2.1 q (by omega)))
  have c5 : m5 N1 = some (true, oB 6 W1) := by rw [hm5]; exact up_eq ..
  have hS5 : StC m5 s t1.2.2.2.2 := by
    have hk : Kt (fun i => i = 6) (fk_up m4 N1 (oB 6 (fk_V0 tyX7))) (fk_up (fk_up m4 N1 (oB 6 (fk_V0 tyX7))) N1 (oB 6 W1)) := Kt.up1 6 _ (up_eq ..) rfl (by decide) (by decide)
    rw [up_up, ← hm5] at hk
    exact hk.2 _ _ hS0
  obtain ⟨N2, k2, m6, t2, x1, s6, f6, x4⟩ := o_on s5 (k1 + 7)
  obtain ⟨N3, k3, m7, e4, zl, y1, s7, ⟨y2, y3, y4, y5⟩, y6, y7, y8, y9⟩ := o_law s6 k2
  have hlr := lawOf_rg t2
  have c6 : m6 N1 = some (true, oB 6 W1) := f6.2.1.o c5 (by decide)
  have c7 : m7 N1 = some (true, oB 6 W1) := y6.o c6 (by decide)
  obtain ⟨W2, hW2⟩ : ∃ W2, W2 = fk_set W1 1 (tR zl) := ⟨_, rfl⟩
  obtain ⟨m8, hm8⟩ : ∃ m8, m8 = fk_up m7 N1 (oB 6 W2) := ⟨_, rfl⟩
  have u8 : Up r 6 m7 m8 := by rw [hm8]; exact Up.of 6 _ c7 rfl (by decide) (by decide) (by omega)
  have s8 := s7.up u8 (by decide) (by decide) (by decide) (by decide)
  have c8 : m8 N1 = some (true, oB 6 W2) := by rw [hm8]; exact up_eq ..
  obtain ⟨N4, k4, m9, t3, v1, s9, f9, v4⟩ := o_on s8 k3
  have c9 : m9 N1 = some (true, oB 6 W2) := f9.2.1.o c8 (by decide)
  have K5 : Kt kp3 m4 m5 := kt5.f3
  have K6 : Kt kp3 m4 m6 := K5.k3 f6.2.1
  have K7 : Kt kp3 m4 m7 := K6.k3 y6
  have K8 : Kt kp3 m4 m8 := by rw [hm8]; exact K7.new _ hN1 c7 (show (6 : Nat) ≠ 16 by decide) (show (6 : Nat) ≠ 101 by decide)
  have K9 : Kt kp3 m4 m9 := K8.k3 f9.2.1
  have hP9 := hP4.kp hF K9
  obtain ⟨V9, p1, p2, -⟩ := hP9.pq
  obtain ⟨N5, k5, m10, t4, e5, v, q1, s10, f10, q4⟩ := o_part s9 k4 (lo := 0) (hi := wd) (i := 20) (by omega) (by omega) (by omega)
  have c10 : m10 N1 = some (true, oB 6 W2) := f10.2.1.o c9 (by decide)
  obtain ⟨W3, hW3⟩ : ∃ W3, W3 = fk_set W2 2 (tI (ii v)) := ⟨_, rfl⟩
  obtain ⟨m11, hm11⟩ : ∃ m11, m11 = fk_up m10 N1 (oB 6 W3) := ⟨_, rfl⟩
  have u11 : Up r 6 m10 m11 := by rw [hm11]; exact Up.of 6 _ c10 rfl (by decide) (by decide) (by omega)
  have s11 := s10.up u11 (by decide) (by decide) (by decide) (by decide)
  have c11 : m11 N1 = some (true, oB 6 W3) := by rw [hm11]; exact up_eq ..
  obtain ⟨N6, k6, m12, t5, e6, d, w1, s12, f12, w4⟩ := o_part s11 k5 (lo := 0) (hi := 20) (i := 21) (by omega) (by omega) (by omega)
  have c12 : m12 N1 = some (true, oB 6 W3) := f12.2.1.o c11 (by decide)
  obtain ⟨W4, hW4⟩ : ∃ W4, W4 = fk_set W3 3 (tI (ii d)) := ⟨_, rfl⟩
  obtain ⟨m13, hm13⟩ : ∃ m13, m13 = fk_up m12 N1 (oB 6 W4) := ⟨_, rfl⟩
  have u13 : Up r 6 m12 m13 := by rw [hm13]; exact Up.of 6 _ c12 rfl (by decide) (by decide) (by omega)
  have s13 := s12.up u13 (by decide) (by decide) (by decide) (by decide)
  have c13 : m13 N1 = some (true, oB 6 W4) := by rw [hm13]; exact up_eq ..
  have K10 : Kt kp3 m4 m10 := K9.k3 f10.2.1
  have K11 : Kt kp3 m4 m11 := by rw [hm11]; exact K10.new _ hN1 c10 (show (6 : Nat) ≠ 16 by decide) (show (6 : Nat) ≠ 101 by decide)
  have K12 : Kt kp3 m4 m12 := K11.k3 f12.2.1
  have K13 : Kt kp3 m4 m13 := by rw [hm13]; exact K12.new _ hN1 c12 (show (6 : Nat) ≠ 16 by decide) (show (6 : Nat) ≠ 101 by decide)
  have hLo : Lo r m m13 := by
    have l5 : Lo r m4 m5 := fun q hq => Or.inl (by rw [hm5]; exact up_ne _ _ (by omega))
    exact ((((((((f04.2.2.tr l5).tr f6.2.2).tr y7).tr u8.lo).tr f9.2.2).tr f10.2.2).tr u11.lo).tr f12.2.2).tr u13.lo
  have b1' := f04.1
  have b6 := f6.1
  have b9 := f9.1
  have b10 := f10.1
  have b12 := f12.1
  have hw0 : e1.1 = 0 → φ 2 < 5 ∧ wd = φ 0 := by
    intro h0
    have := (a4.live h0).2
    unfold aBeg at this
    by_cases hh : φ 2 < 5
    · rw [if_pos hh] at this
      by_cases h7 : φ 7 = 0
      · rw [if_pos (show ((t, φ, ψ) : Ls).2.1 7 = 0 from h7)] at this
        cases this
      · exact ⟨hh, by rw [hwd, if_neg h7]⟩
    · rw [if_neg hh] at this
      cases this
  have hNew : Lv (aNew T n φ t1) t2 e1 e3 := by
    unfold aNew
    refine Lv.ite (k := 1) (p := t1.2.1) (by omega) h3 ?_
    have hsw : ∀ {X Y : Except Er Tkn}, (if 0 ≤ fnd φ t1.2.2.2.2 then X else Y) = if ¬ 0 ≤ fnd φ t1.2.2.2.2 then Y else X := fun {X Y} => by
      by_cases hh : 0 ≤ fnd φ t1.2.2.2.2
      · rw [if_pos hh, if_neg (fun k => k hh)]
      · rw [if_neg hh, if_pos hh]
    rw [hsw]
    refine Lv.ite (k := 3) (p := t1.2.1) (by omega) h4 ?_
    exact (Lv.ok t2 e3).cg (fun h0 => ⟨by rw [x4 h0], rfl⟩)
  have hL : Lv ((aBeg T n (φ 2 < 5) (t, φ, ψ)).bind (aPair T n)) (t5, su1 (su1 (nmS φ (φ 2) t1.2.2.2.2) (8 + φ 2) (lawOf t2)) 2 (φ 2 + 1), su1 (su1 ψ (φ 2) v) (5 + φ 2) d) e e6 := by
    refine a4.bind ?_
    unfold aPair
    refine hNew.bind ?_
    refine y8.bind ?_
    refine (q4.cg (ρ' := aPt T n (kw 20) 0 (φ 0) (aOn T n t2)) (v' := (v, t4)) (fun h0 => ⟨?_, rfl⟩)).bind ?_
    · rw [v4 h0, (hw0 (hNew.live (y8.live h0).1).1).2]
    · exact w4.bind (Lv.ok _ _)
  have hj : ∀ res, (f_X3_pair_J53 g (some r) N1 k1 m4 = res) → f_X3_pair g (some r) N kk m = res := by
    intro res hres
    obtain ⟨V, v1, v2, v3, v4, v5, v6, -⟩ := hP.pq
    have hl4 : isO m (some (r + 3)) 14 = some () ∧ f_J2_size (some (r + 3)) m = some (ii (φ 2)) := by
      obtain ⟨q, lw, hk, dk, du, dv, e4, e5, e6, g4, g5, g6, -, -, ⟨z, -⟩, -⟩ := hP
      exact z.sz
    have j30 : f_X3_pair_J30 g (some r) N1 k1 m3 = res := by
      obtain ⟨e4', q', hN⟩ := hP3.pn
      obtain ⟨zz, i1, i2⟩ := s3.tk
      obtain ⟨-, -, -, -, ss, i3, i4⟩ := i2.at
      obtain ⟨V3, i5, -⟩ := hP3.pq
      have hr := fnd_rg φ t1.2.2.2.2
      unfold f_X3_pair_J30
      rw [s3.pi, Option.bind_some, i1, Option.bind_some, i3, Option.bind_some, isO_of i5, Option.bind_some, k_find hF hN i4 s3.ok.2.2.2.2.1, Option.bind_some]
      by_cases hc : 0 ≤ fnd φ t1.2.2.2.2
      · rw [if_neg (show ¬ ii (fnd φ t1.2.2.2.2) = -1 by rw [show (-1 : Int32) = ii (-1) from rfl, ii_eq (by omega) (by omega)]; omega), s3.o, Option.bind_some, show (3 : Int32) = ii 3 from rfl, d2 (fun k => k hc), Option.bind_some, hres]
      · rw [if_pos (show ii (fnd φ t1.2.2.2.2) = -1 by rw [show fnd φ t1.2.2.2.2 = -1 by omega]; rfl), ← d1 hc, hres]
    unfold f_X3_pair
    rw [h.pi, Option.bind_some, gR_of v1 v6, Option.bind_some, hl4.1, Option.bind_some, hl4.2, Option.bind_some, h.o, Option.bind_some, a1, bn3_some, b1, Option.bind_some, b2, Option.bind_some, b3, bn2_some]
    by_cases hc : isNm t1
    · rw [if_pos hc, if_neg (show ¬ (1 : Int32) = 0 by decide), ← c1 hc, j30]
    · rw [if_neg hc, if_pos rfl, s2.o, Option.bind_some, show (1 : Int32) = ii 1 from rfl, c2 hc, Option.bind_some, j30]
  have hrun : ∀ res, (f_X3_isOver (some r) m13).bind (fun z35 => if z35 = 0 then ((gR m13 (some r) 2 1).bind fun z36 => (gR m13 z36 4 4).bind fun z37 => (isO m13 z37 14).bind fun u38 => bn4 (f_J2_add g z37 (some N1) N6 k6 m13) fun z39 n41 k42 m40 => some (n41, k42, m40)) else (some (N6, k6, m13))) = res → f_X3_pair_J53 g (some r) N1 k1 m4 = res := by
    intro res hres
    unfold f_X3_pair_J53
    rw [g1, Option.bind_some, g2, Option.bind_some, show isS (some N1) = some () from rfl, Option.bind_some, g3, Option.bind_some, s5.o, Option.bind_some, x1, bn3_some, s6.o, Option.bind_some, y1, bn4_some, pV_of 1 _ c7, ← hW2, ← hm8, Option.bind_some, s8.o, Option.bind_some, v1, bn3_some, s9.pi, Option.bind_some, gI_of p1 p2, ← hwd, Option.bind_some, s9.o, Option.bind_some, show f_X3_part g (some r) (some (g 20)) 0 (ii wd) N4 k4 m9 = _ from q1, bn4_some, pV_of 2 _ c10, ← hW3, ← hm11, Option.bind_some, s11.o, Option.bind_some, show f_X3_part g (some r) (some (g 21)) 0 20 N5 k5 m11 = _ from w1, bn4_some, pV_of 3 _ c12, ← hW4, ← hm13, Option.bind_some, s13.o, Option.bind_some]
    exact hres
  by_cases h6 : e6.1 = 0
  · have h5 := (w4.live h6).1
    obtain ⟨h40, hq⟩ := q4.live h5
    obtain ⟨h30, hl⟩ := y8.live h40
    obtain ⟨h10, hn⟩ := hNew.live h30
    have hl0 : 0 ≤ lawOf t2 := by
      unfold aLw at hl
      by_cases hh : 0 ≤ lawOf t2
      · exact hh
      · rw [if_neg hh] at hl
        cases hl
    have hnm : isNm t1 := by
      unfold aNew at hn
      by_cases hh : isNm t1
      · exact hh
      · rw [if_neg hh] at hn
        cases hn
    obtain ⟨rfl, L, l1, l2⟩ := y9 hl0
    have n12 : N2 ≠ N1 := by omega
    have hkp : ¬ kp3 (7 + (lawOf t2).toNat) := by
      unfold kp3
      omega
    have l8 : m8 N2 = some (true, oB (7 + (lawOf t2).toNat) L) := by rw [hm8]; exact (up_ne _ _ n12).trans l1
    have l10 := f10.2.1.o (f9.2.1.o l8 hkp) hkp
    have l11 : m11 N2 = some (true, oB (7 + (lawOf t2).toNat) L) := by rw [hm11]; exact (up_ne _ _ n12).trans l10
    have l12 := f12.2.1.o l11 hkp
    have l13 : m13 N2 = some (true, oB (7 + (lawOf t2).toNat) L) := by rw [hm13]; exact (up_ne _ _ n12).trans l12
    have hSn : StC m13 s t1.2.2.2.2 := u13.1.2 _ _ (f12.2.1.2 _ _ (u11.1.2 _ _ (f10.2.1.2 _ _ (f9.2.1.2 _ _ (u8.1.2 _ _ (y6.2 _ _ (f6.2.1.2 _ _ hS5)))))))
    obtain ⟨N7, k7, m14, o1, o2, o3, o4, o5, o6, o7, hP'⟩ := hP4.pair hF (hw0 h10).1 K13 (Np := N1) (Lp := N2) (s := s) (W := W4) (L := L) (w := t1.2.2.2.2) (lw := lawOf t2) (v := v) (d := d) hN1 (by omega) (by omega) ⟨hl0, hlr.2⟩ h8.2.2.2.2.1 (h8.2.2.2.2.2.1 hnm.1) c13 (by rw [hW4, hW3, hW2, hW1]; rfl) hSn (by rw [hW4, hW3, hW2]; rfl) (by rw [hW4, hW3]; rfl) (by rw [hW4]; rfl) (by rw [hW4, hW3, hW2, hW1]; rfl) (by rw [hW4, hW3, hW2, hW1]; rfl) l13 l2 s13.2.2.2.2.1.2 s13.2.1 k6
    have s14 := s13.kt o6 (by decide) (by decide) (by decide) (by decide) (by omega) o5
    refine ⟨N7, k7, m14, t5, e6, _, hj _ (hrun _ ?_), s14, ⟨by omega, hLo.tr (fun q hq => Or.inl (o7 q hq))⟩, hL, fun _ => ⟨rfl, hP'⟩, fun h0 => absurd h6 h0⟩
    rw [s13.ov, Option.bind_some, if_pos h6, if_pos rfl, s13.pi, Option.bind_some, o1, Option.bind_some, o2, Option.bind_some, o3, bn4_some]
  · refine ⟨N6, k6, m13, t5, e6, _, hj _ (hrun _ ?_), s13, ⟨by omega, hLo⟩, hL, fun h0 => absurd h0 h6, fun _ => f04.2.1.k3 K13⟩
    rw [s13.ov, Option.bind_some, if_neg h6, if_neg (by decide)]
end LNQ
