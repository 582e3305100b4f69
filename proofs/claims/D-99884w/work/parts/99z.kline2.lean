/-! PLAIN 69: the component's lines: unsure -/
set_option maxRecDepth 100000
section LNU
variable {g : Nat → Nat} {r tp : Nat} {T : Int → Int} {n : Int} {m : fk_M} {N : Nat} {t : Tkn} {e : Er} {φ ψ : Int → Int}
/-- an unsure step is kept -/
theorem PR.uns (h : PR g m r φ ψ) (hF : FI φ ψ) (h5 : φ 5 < 4) {p : Int} (p0 : 0 ≤ p) (p1 : p < φ 2) (hU : ¬ isU φ p) (v : Int) : ∃ qv m1 m2 m3 m4, (gR m (some (r + 2)) 4 4 = some (some (r + 3)) ∧ isO m (some (r + 3)) 14 = some () ∧ f_J2_get (some (r + 3)) (ii p) m = some (some qv) ∧ cst m (some qv) 6 = some () ∧ pZ m (some qv) 6 6 1 = some m1 ∧ Up r 6 m m1) ∧ (gR m1 (some (r + 2)) 4 4 = some (some (r + 3)) ∧ isO m1 (some (r + 3)) 14 = some () ∧ f_J2_get (some (r + 3)) (ii p) m1 = some (some qv) ∧ cst m1 (some qv) 6 = some () ∧ pV m1 (some qv) 6 5 (tI (ii v)) = some m2 ∧ Up r 6 m1 m2) ∧ (gR m2 (some (r + 2)) 4 7 = some (some (r + 6)) ∧ gI m2 (some (r + 2)) 4 3 = some (ii (φ 5)) ∧ sI m2 (some (r + 6)) 0 (ii (φ 5)) (ii p) = some m3 ∧ Up r 100 m2 m3) ∧ (gI m3 (some (r + 2)) 4 3 = some (ii (φ 5)) ∧ pV m3 (some (r + 2)) 4 3 (tI (ii (φ 5 + 1))) = some m4 ∧ Up r 4 m3 m4) ∧ PR g m4 r (su1 (su1 (su1 φ (18 + 2 * φ 5) p) (18 + 2 * φ 5 + 1) v) 5 (φ 5 + 1)) ψ := by
  obtain ⟨q, lw, hk, dk, du, dv, e4, e5, e6, g4, g5, g6, a0, ⟨V, v1, v2, v3, v4, v5, v6, v7, v8, v9⟩, ⟨a2, a3, a4⟩, a5, ⟨gv, y1, y2⟩, a7, a8, a9, a10, a11⟩ := h
  have r2 := hF.2.2.2.1
  have r5 := hF.2.2.2.2.2.2.1
  have r6 := hF.2.2.2.2.2.2.2.1
  have r9 := hF.2.2.2.2.2.2.2.2.1
  obtain ⟨φ', hφ⟩ : ∃ φ', φ' = su1 (su1 (su1 φ (18 + 2 * φ 5) p) (18 + 2 * φ 5 + 1) v) 5 (φ 5 + 1) := ⟨_, rfl⟩
  have hn : ∀ j, j ≠ 5 → j ≠ 18 + 2 * φ 5 → j ≠ 18 + 2 * φ 5 + 1 → φ' j = φ j := fun j j0 j1 j2 => by rw [hφ, su1_n _ _ j0, su1_n _ _ j2, su1_n _ _ j1]
  have n5 : φ' 5 = φ 5 + 1 := by rw [hφ, su1_e]
  have np : φ' (18 + 2 * φ 5) = p := by rw [hφ, su1_n _ _ (by omega), su1_n _ _ (by omega), su1_e]
  have nv : φ' (18 + 2 * φ 5 + 1) = v := by rw [hφ, su1_n _ _ (by omega), su1_e]
  have hn2 := hn 2 (by omega) (by omega) (by omega)
  have hn4 := hn 4 (by omega) (by omega) (by omega)
  have hn6 := hn 6 (by omega) (by omega) (by omega)
  obtain ⟨c1, ⟨b0, W, s, wd, w1, w2, w3, w4, w5, w6, w7, w8, w9, w10⟩, b1, L, l1, l2⟩ := a7 p p0 p1
  have hq2 : q p ≠ r + 2 := fun e => by
    rw [e, v1] at w1
    cases w1
  have hq6 : q p ≠ r + 6 := fun e => by
    rw [e, y1] at w1
    cases w1
  obtain ⟨m1, hm1⟩ : ∃ m1, m1 = fk_up m (q p) (oB 6 (fk_set W 6 (tI 1))) := ⟨_, rfl⟩
  have w1a : m1 (q p) = some (true, oB 6 (fk_set W 6 (tI 1))) := by rw [hm1]; exact up_eq ..
  obtain ⟨m2, hm2⟩ : ∃ m2, m2 = fk_up m1 (q p) (oB 6 (fk_set (fk_set W 6 (tI 1)) 5 (tI (ii v)))) := ⟨_, rfl⟩
  have w1b : m2 (q p) = some (true, oB 6 (fk_set (fk_set W 6 (tI 1)) 5 (tI (ii v)))) := by rw [hm2]; exact up_eq ..
  have u1 : Up r 6 m m1 := by rw [hm1]; exact Up.of 6 _ w1 rfl (by decide) (by decide) b0
  have u2 : Up r 6 m1 m2 := by rw [hm2]; exact Up.of 6 _ w1a rfl (by decide) (by decide) b0
  have y1' : m2 (r + 6) = some (true, aN 0 4 gv) := u2.1.n (u1.1.n y1 (by decide)) (by decide)
  have v1' : m2 (r + 2) = some (true, oB 4 V) := u2.1.o (u1.1.o v1 (by decide)) (by decide)
  obtain ⟨m3, hm3⟩ : ∃ m3, m3 = fk_up m2 (r + 6) (aN 0 4 (upd gv (φ 5).toNat (ii p))) := ⟨_, rfl⟩
  have u3 : Up r 100 m2 m3 := by rw [hm3]; exact Up.of 100 _ y1' rfl (by decide) (by decide) (by omega)
  have v1c : m3 (r + 2) = some (true, oB 4 V) := u3.1.o v1' (by decide)
  have y1c : m3 (r + 6) = some (true, aN 0 4 (upd gv (φ 5).toNat (ii p))) := by rw [hm3]; exact up_eq ..
  have w1c : m3 (q p) = some (true, oB 6 (fk_set (fk_set W 6 (tI 1)) 5 (tI (ii v)))) := u3.1.o w1b (by decide)
  obtain ⟨m4, hm4⟩ : ∃ m4, m4 = fk_up m3 (r + 2) (oB 4 (fk_set V 3 (tI (ii (φ 5 + 1))))) := ⟨_, rfl⟩
  have u4 : Up r 4 m3 m4 := by rw [hm4]; exact Up.of 4 _ v1c rfl (by decide) (by decide) (by omega)
  have k4 : Kt (fun i => ((i = 6 ∨ i = 6) ∨ i = 100) ∨ i = 4) m m4 := ((u1.1.tr u2.1).tr u3.1).tr u4.1
  have a2' : Lq m1 (g 40) r (r + 3) (φ 2) g4 e4 := a2.kt u1.1 (by decide) (by decide)
  refine ⟨q p, m1, m2, m3, m4, ⟨gR_of v1 v6, a2.sz.1, by rw [a2.get p0 p1, c1], cst_of w1, ?_, u1⟩, ⟨gR_of (u1.1.o v1 (by decide)) v6, a2'.sz.1, by rw [a2'.get p0 p1, c1], cst_of w1a, by rw [hm2]; exact pV_of 5 _ w1a, u2⟩, ⟨gR_of v1' v9, gI_of v1' v5, ?_, u3⟩, ⟨gI_of v1c v5, by rw [hm4]; exact pV_of 3 _ v1c, u4⟩, ?_⟩
  · unfold pZ
    rw [if_pos (Or.inr rfl), pV_of 6 _ w1, hm1]
  · rw [sI_of (ii p) y1' (by omega) (by omega) (by omega), hm3]
    rfl
  rw [← hφ]
  have hUl : ∀ k : Int, 0 ≤ k → k < φ 5 → φ' (18 + 2 * k) = φ (18 + 2 * k) ∧ φ' (18 + 2 * k + 1) = φ (18 + 2 * k + 1) := fun k k0 k1 => ⟨hn _ (by omega) (by omega) (by omega), hn _ (by omega) (by omega) (by omega)⟩
  have hUi : ∀ j, isU φ' j ↔ isU φ j ∨ j = p := by
    intro j
    constructor
    · rintro ⟨k, k1, k2⟩
      by_cases hk5 : (k.val : Int) = φ 5
      · rw [hk5, np] at k2
        exact Or.inr k2.symm
      · exact Or.inl ⟨k, by omega, by rw [← (hUl k (by omega) (by omega)).1]; exact k2⟩
    · rintro (⟨k, k1, k2⟩ | rfl)
      · exact ⟨k, by omega, by rw [(hUl k (by omega) (by omega)).1]; exact k2⟩
      · exact ⟨⟨(φ 5).toNat, by omega⟩, by show (((φ 5).toNat : Nat) : Int) < φ' 5; omega, by show φ' (18 + 2 * (((φ 5).toNat : Nat) : Int)) = j; rw [Int.toNat_of_nonneg (by omega)]; exact np⟩
  refine ⟨q, lw, hk, dk, du, dv, e4, e5, e6, g4, g5, g6, a0, ⟨fk_set V 3 (tI (ii (φ 5 + 1))), by rw [hm4]; exact up_eq .., ?_, ?_, ?_, ?_, v6, v7, v8, v9⟩, ⟨?_, ?_, ?_⟩, ?_, ⟨upd gv (φ 5).toNat (ii p), u4.1.n y1c (by decide), fun k k0 k1 => ?_⟩, fun j j0 j1 => ?_, fun j j' j0 j1 j2 j3 => ?_, fun k k0 k1 => ?_, fun k k0 k1 => ?_, fun j j' j0 j1 j2 j3 hj => ?_⟩
  · rw [hn 7 (by omega) (by omega) (by omega), hn 0 (by omega) (by omega) (by omega)]
    exact v2
  · rw [hn 1 (by omega) (by omega) (by omega)]
    exact v3
  · rw [hn 3 (by omega) (by omega) (by omega)]
    exact v4
  · rw [n5]
    rfl
  · rw [hn2]
    exact a2.kt k4 (by decide) (by decide)
  · rw [hn4]
    exact a3.kt k4 (by decide) (by decide)
  · rw [hn6]
    exact a4.kt k4 (by decide) (by decide)
  · rw [hn2, hn4, hn6]
    exact a5
  · unfold upd
    by_cases hk5 : k = φ 5
    · rw [hk5, if_pos rfl, np]
    · rw [if_neg (by omega), (hUl k k0 (by omega)).1]
      exact y2 k k0 (by omega)
  · rw [hn2] at j1
    refine ⟨(a7 j j0 j1).1, ?_⟩
    have rj := r9 j j0 j1
    by_cases hjp : j = p
    · subst hjp
      have l1' : m4 (lw j) = some (true, oB (7 + (φ (8 + j)).toNat) L) := k4.o l1 (by omega)
      have w1' : m4 (q j) = some (true, oB 6 (fk_set (fk_set W 6 (tI 1)) 5 (tI (ii v)))) := u4.1.o w1c (by decide)
      obtain ⟨x1, x2, x3, x4⟩ := w4
      have x0 := x1.1
      refine ⟨⟨b0, _, s, wd, w1', w2, k4.2 _ _ w3, ⟨x1, x2, by rw [hn _ (by omega) (by omega) (by omega)]; exact x3, fun i hi => by rw [hn _ (by omega) (by omega) (by omega)]; exact x4 i hi⟩, w5, w6, w7, by rw [hn _ (by omega) (by omega) (by omega)]; exact w8, ?_, fun k k0 k1 k2 => ?_⟩, b1, L, by rw [hn _ (by omega) (by omega) (by omega)]; exact l1', by rw [hn _ (by omega) (by omega) (by omega)]; exact l2⟩
      · rw [if_pos ((hUi j).mpr (Or.inr rfl))]
        rfl
      · have hk5 : k = φ 5 := by
          by_cases hh : k = φ 5
          · exact hh
          · exfalso
            apply hU
            refine ⟨⟨k.toNat, by omega⟩, by show ((k.toNat : Nat) : Int) < φ 5; omega, ?_⟩
            show φ (18 + 2 * ((k.toNat : Nat) : Int)) = j
            rw [Int.toNat_of_nonneg k0, ← (hUl k k0 (by omega)).1]
            exact k2
        rw [hk5, nv]
        rfl
    · have hqj : q j ≠ q p := fun e => hjp (a8 j p j0 j1 p0 p1 e)
      obtain ⟨⟨x0, X, sX, wX, x1, x2, x3, ⟨x4, x5, x6, x7⟩, x8, x9, x10, x11, x12, x13⟩, z1, Z, z2, z3⟩ := (a7 j j0 j1).2
      have x1' : m4 (q j) = some (true, oB 6 X) := by
        refine u4.1.o (u3.1.o ?_ (by decide)) (by decide)
        rw [hm2, up_ne _ _ hqj, hm1, up_ne _ _ hqj]
        exact x1
      have y0 := x4.1
      refine ⟨⟨x0, X, sX, wX, x1', x2, k4.2 _ _ x3, ⟨x4, x5, by rw [hn _ (by omega) (by omega) (by omega)]; exact x6, fun i hi => by rw [hn _ (by omega) (by omega) (by omega)]; exact x7 i hi⟩, x8, x9, x10, by rw [hn _ (by omega) (by omega) (by omega)]; exact x11, ?_, fun k k0 k1 k2 => ?_⟩, z1, Z, by rw [hn _ (by omega) (by omega) (by omega)]; exact k4.o z2 (by omega), by rw [hn _ (by omega) (by omega) (by omega)]; exact z3⟩
      · rw [x12]
        by_cases hu : isU φ j
        · rw [if_pos hu, if_pos ((hUi j).mpr (Or.inl hu))]
        · rw [if_neg hu, if_neg (fun hh => ((hUi j).mp hh).elim hu hjp)]
      · have hk5 : k ≠ φ 5 := fun hh => by
          rw [hh, np] at k2
          exact hjp k2.symm
        rw [(hUl k k0 (by omega)).2]
        exact x13 k k0 (by omega) (by rw [← (hUl k k0 (by omega)).1]; exact k2)
  · rw [hn2] at j1 j3
    exact a8 j j' j0 j1 j2 j3
  · rw [hn6] at k1
    exact ⟨(a9 k k0 k1).1, ((a9 k k0 k1).2.kt k4 (by decide)).cg ⟨hn _ (by omega) (by omega) (by omega), hn _ (by omega) (by omega) (by omega), hn _ (by omega) (by omega) (by omega)⟩⟩
  · rw [hn4] at k1
    refine ⟨(a10 k k0 k1).1, ?_⟩
    have := (a10 k k0 k1).2.kt k4 (by decide)
    exact ⟨this.1, by rw [hn2]; exact this.2⟩
  · rw [hn4]
    exact a11 j j' j0 j1 j2 j3 hj
theorem r_unsure (h : SS g r tp T n m N t e) (kk : Nat) (hP : PR g m r φ ψ) (hF : FI φ ψ) : LN g r tp T n m N kk t e ((aBeg T n (φ 5 < 4) (t, φ, ψ)).bind (aUns T n)) (f_X3_unsure g (some r) N kk m) := by
  have r5 := hF.2.2.2.2.2.2.1
  obtain ⟨N1, k1, m1, t1, e1, a1, s1, f1, a4⟩ := o_begins h kk hP hF (a := ii (φ 5)) (b := 4) (φ 5 < 4) (by rw [show (4 : Int32) = ii 4 from rfl, ne_eq, ii_eq (by omega) (by omega)]; omega)
  have hP1 := hP.kp hF f1.2.1
  obtain ⟨m2, e2, p, b1, s2, f2, b4⟩ := o_known s1 k1 hP1 hF
  have hP2 := hP1.kp hF f2.2.1
  obtain ⟨m3, e3, c1, c2, s3, f3, h3⟩ := o_chk2 s2 k1 (¬ isU φ p) (k := 3) (by omega)
  obtain ⟨N4, k4, m4, t4, d1, s4, f4, d4⟩ := o_on s3 k1
  obtain ⟨N5, k5, m5, t5, e5, x1, s5, f5, x4⟩ := o_whole s4 k4 (lo := 0) (hi := 20) (by omega) (by omega)
  have hf := (((f1.tr f2).tr f3).tr f4).tr f5
  have hL : Lv ((aBeg T n (φ 5 < 4) (t, φ, ψ)).bind (aUns T n)) (t5, su1 (su1 (su1 φ (18 + 2 * φ 5) p) (18 + 2 * φ 5 + 1) t4.2.2.2.1) 5 (φ 5 + 1), ψ) e e5 := by
    refine a4.bind ?_
    unfold aUns
    refine b4.bind ?_
    have hsw : ∀ {X Y : Except Er Ls}, (if isU φ p then X else Y) = if ¬ isU φ p then Y else X := fun {X Y} => by
      by_cases hh : isU φ p
      · rw [if_pos hh, if_neg (fun k => k hh)]
      · rw [if_neg hh, if_pos hh]
    show Lv (if isU φ p then _ else _) _ _ _
    rw [hsw]
    refine Lv.ite (k := 3) (p := t1.2.1) (by omega) h3 ?_
    exact (x4.cg (ρ' := aWh T n 0 20 (aOn T n t1)) (v' := (t4.2.2.2.1, t5)) (fun h0 => ⟨by rw [d4 h0], rfl⟩)).bind (Lv.ok _ _)
  have hp : e2.1 = 0 → 0 ≤ p ∧ p < φ 2 := fun h0 => (kn_lt hF (b4.live h0).2).2
  have hj : ∀ res, (f_X3_unsure_J49 g (some r) (ii p) N1 k1 m3 = res) → f_X3_unsure g (some r) N kk m = res := by
    intro res hres
    obtain ⟨V, v1, v2, v3, v4, v5, -⟩ := hP.pq
    unfold f_X3_unsure
    rw [h.pi, Option.bind_some, gI_of v1 v5, Option.bind_some, h.o, Option.bind_some, a1, bn3_some, s1.o, Option.bind_some, b1, bn2_some, s2.o, Option.bind_some, s2.ov, Option.bind_some]
    by_cases h0 : e2.1 = 0
    · obtain ⟨p0, p1⟩ := hp h0
      obtain ⟨qv, W, g1, g2, g3, g4, g5, g6⟩ := hP2.at p0 p1
      rw [if_pos h0, if_pos rfl, s2.pi, Option.bind_some, g1, Option.bind_some, g2, Option.bind_some, g3, Option.bind_some, cst_of g4, Option.bind_some, gI_of g4 g6, Option.bind_some]
      by_cases hc : isU φ p
      · rw [if_pos hc, if_neg (show ¬ (1 : Int32) = 0 by decide), Option.bind_some, show (3 : Int32) = ii 3 from rfl, c2 h0 (fun k => k hc), Option.bind_some, hres]
      · rw [if_neg hc, if_pos rfl, ← c1 (Or.inr hc), hres]
    · rw [if_neg h0, if_neg (by decide), ← c1 (Or.inl h0), hres]
  have hrun : ∀ res, (f_X3_isOver (some r) m5).bind (fun z11 => if z11 = 0 then ((gR m5 (some r) 2 1).bind fun z12 => (gR m5 z12 4 4).bind fun z13 => (isO m5 z13 14).bind fun u14 => (f_J2_get z13 (ii p) m5).bind fun z15 => (cst m5 z15 6).bind fun _ => (pZ m5 z15 6 6 1).bind fun m16 => (gR m16 (some r) 2 1).bind fun z17 => (gR m16 z17 4 4).bind fun z18 => (isO m16 z18 14).bind fun u19 => (f_J2_get z18 (ii p) m16).bind fun z20 => (cst m16 z20 6).bind fun _ => (pV m16 z20 6 5 (tI (ii t4.2.2.2.1))).bind fun m21 => (gR m21 (some r) 2 1).bind fun z22 => (gR m21 z22 4 7).bind fun z23 => (gR m21 (some r) 2 1).bind fun z24 => (gI m21 z24 4 3).bind fun z25 => (sI m21 z23 0 z25 (ii p)).bind fun m26 => (gR m26 (some r) 2 1).bind fun z27 => (gI m26 z27 4 3).bind fun z28 => (pV m26 z27 4 3 (tI (z28 + 1))).bind fun m29 => some (N5, k5, m29)) else (some (N5, k5, m5))) = res → f_X3_unsure_J49 g (some r) (ii p) N1 k1 m3 = res := by
    intro res hres
    unfold f_X3_unsure_J49
    rw [s3.o, Option.bind_some, d1, bn3_some, s4.o, Option.bind_some, show f_X3_whole g (some r) 0 20 N4 k4 m4 = _ from x1, bn4_some, s5.o, Option.bind_some]
    exact hres
  by_cases h5 : e5.1 = 0
  · have h4 : e3.1 = 0 := (x4.live h5).1
    have h20 : e2.1 = 0 ∧ ¬ isU φ p := by
      by_cases hh : e2.1 = 0 ∧ ¬¬ isU φ p
      · rw [if_pos hh, er1_l hh.1] at h3
        rw [h3] at h4
        exact absurd h4 (show ¬ (3 : Int) = 0 by decide)
      · rw [if_neg hh] at h3
        rw [h3] at h4
        exact ⟨h4, fun k => hh ⟨h4, fun k' => k' k⟩⟩
    obtain ⟨p0, p1⟩ := hp h20.1
    have h54 : φ 5 < 4 := by
      have := (a4.live (b4.live h20.1).1).2
      unfold aBeg at this
      by_cases hh : φ 5 < 4
      · exact hh
      · rw [if_neg hh] at this
        cases this
    obtain ⟨qv, m6, m7, m8, m9, ⟨g1, g2, g3, g4, g5, u1⟩, ⟨g6, g7, g8, g9, g10, u2⟩, ⟨g11, g12, g13, u3⟩, ⟨g14, g15, u4⟩, hP'⟩ := (hP.kp hF hf.2.1).uns hF h54 p0 p1 h20.2 t4.2.2.2.1
    have s6 := s5.up u1 (by decide) (by decide) (by decide) (by decide)
    have s7 := s6.up u2 (by decide) (by decide) (by decide) (by decide)
    have s8 := s7.up u3 (by decide) (by decide) (by decide) (by decide)
    have s9 := s8.up u4 (by decide) (by decide) (by decide) (by decide)
    refine ⟨N5, k5, m9, t5, e5, _, hj _ (hrun _ ?_), s9, hf.rm (((u1.lo.tr u2.lo).tr u3.lo).tr u4.lo), hL, fun _ => ⟨rfl, hP'⟩, fun h0 => absurd h5 h0⟩
    rw [s5.ov, Option.bind_some, if_pos h5, if_pos rfl, s5.pi, Option.bind_some, g1, Option.bind_some, g2, Option.bind_some, g3, Option.bind_some, g4, Option.bind_some, g5, Option.bind_some, s6.pi, Option.bind_some, g6, Option.bind_some, g7, Option.bind_some, g8, Option.bind_some, g9, Option.bind_some, g10, Option.bind_some, s7.pi, Option.bind_some, g11, Option.bind_some, Option.bind_some, g12, Option.bind_some, g13, Option.bind_some, s8.pi, Option.bind_some, g14, Option.bind_some, show (1 : Int32) = ii 1 from rfl, ii_add, g15, Option.bind_some]
  · refine ⟨N5, k5, m5, t5, e5, _, hj _ (hrun _ ?_), s5, hf.rm (Lo.rfl' _ _), hL, fun h0 => absurd h0 h5, fun _ => hf.2.1⟩
    rw [s5.ov, Option.bind_some, if_neg h5, if_neg (by decide)]
end LNU
