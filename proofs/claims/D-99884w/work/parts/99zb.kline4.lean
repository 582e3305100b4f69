/-! PLAIN 71: the component's lines: heard -/
set_option maxRecDepth 100000
section LNH
variable {g : Nat → Nat} {r tp : Nat} {T : Int → Int} {n : Int} {m : fk_M} {N : Nat} {t : Tkn} {e : Er} {φ ψ : Int → Int}
theorem k_isHeard (h : PR g m r φ ψ) (hF : FI φ ψ) {p s : Int} (p0 : 0 ≤ p) (p1 : p < φ 2) (hs : -1000 ≤ s ∧ s ≤ 1000) : f_X5_isHeard (some (r + 2)) (ii p) (ii s) m = some (if isH φ p s then 1 else 0) := by
  obtain ⟨q, lw, hk, dk, du, dv, e4, e5, e6, g4, g5, g6, a0, ⟨V, v1, v2, v3, v4, v5, v6, v7, v8, v9⟩, ⟨a2, a3, a4⟩, a5, a6, a7, a8, a9, a10, a11⟩ := h
  have r2 := hF.2.2.2.1
  have r6 := hF.2.2.2.2.2.2.2.1
  have r14 := hF.2.2.2.2.2.2.2.2.2.2.2.2.2.1
  have hL : ∀ (d N : Nat) (k : Int), 0 ≤ k → k + d = φ 6 → d < N → (∀ j, 0 ≤ j → j < k → ¬ (φ (26 + 3 * j) = p ∧ φ (26 + 3 * j + 1) = s)) → f_X5_isHeard_L2 (some (r + 2)) (ii p) (ii s) m N (ii k) = some (if isH φ p s then 1 else 0) := by
    intro d
    induction d with
    | zero =>
      intro N k h1 h2 h3 h4
      obtain ⟨N, rfl⟩ : ∃ M, N = M + 1 := ⟨N - 1, by omega⟩
      rw [f_X5_isHeard_L2, gR_of v1 v8, Option.bind_some, a4.sz.1, Option.bind_some, a4.sz.2, Option.bind_some, if_pos (by rw [ii_le (by omega) (by omega)]; omega), if_neg (fun hh => by
        obtain ⟨j, j1, j2⟩ := hh
        exact h4 j (by omega) (by omega) j2)]
    | succ d ih =>
      intro N k h1 h2 h3 h4
      obtain ⟨N, rfl⟩ : ∃ M, N = M + 1 := ⟨N - 1, by omega⟩
      obtain ⟨c1, -, D, d1, d2, d3, d4⟩ := a9 k h1 (by omega)
      have rk := r14 k h1 (by omega)
      have hg : f_J2_get (some (r + 5)) (ii k) m = some (some (hk k)) := by rw [a4.get h1 (by omega), c1]
      have hst : ¬ (φ (26 + 3 * k) = p ∧ φ (26 + 3 * k + 1) = s) → f_X5_isHeard_J51 (f_X5_isHeard_L2 (some (r + 2)) (ii p) (ii s) m N) (some (r + 2)) (ii p) (ii s) (ii k) m = some (if isH φ p s then 1 else 0) := by
        intro hno
        unfold f_X5_isHeard_J51
        rw [show (1 : Int32) = ii 1 from rfl, ii_add]
        exact ih N (k + 1) (by omega) (by omega) (by omega) (fun j j0 j1 => by
          by_cases hjk : j = k
          · rw [hjk]
            exact hno
          · exact h4 j j0 (by omega))
      rw [f_X5_isHeard_L2]
      simp only [gR_of v1 v8, a4.sz.1, a4.sz.2, hg, cst_of d1, gI_of d1 d2, gI_of d1 d3, Option.bind_some]
      rw [if_neg (by rw [ii_le (by omega) (by omega)]; omega)]
      by_cases hu : φ (26 + 3 * k) = p
      · rw [if_pos (show ii (φ (26 + 3 * k)) = ii p by rw [hu])]
        by_cases hv : φ (26 + 3 * k + 1) = s
        · have hH : isH φ p s := ⟨⟨k.toNat, by omega⟩, by show ((k.toNat : Nat) : Int) < φ 6; omega, by
            show φ (26 + 3 * ((k.toNat : Nat) : Int)) = p ∧ φ (26 + 3 * ((k.toNat : Nat) : Int) + 1) = s
            rw [Int.toNat_of_nonneg h1]
            exact ⟨hu, hv⟩⟩
          rw [if_pos (show ii (φ (26 + 3 * k + 1)) = ii s by rw [hv]), if_pos hH]
        · rw [if_neg (show ¬ ii (φ (26 + 3 * k + 1)) = ii s by rw [ii_eq (by omega) (by omega)]; exact hv)]
          exact hst (fun hh => hv hh.2)
      · rw [if_neg (show ¬ ii (φ (26 + 3 * k)) = ii p by rw [ii_eq (by omega) (by omega)]; exact hu)]
        exact hst (fun hh => hu hh.1)
  exact hL (φ 6).toNat fk_fuel 0 (by omega) (by omega) (by unfold fk_fuel; omega) (fun j j0 j1 => by omega)
/-- what was heard is kept -/
theorem PR.hrd (h : PR g m r φ ψ) (hF : FI φ ψ) (h6 : φ 6 < 8) (p s v : Int) (hrN : r + 7 ≤ N) (hfr : ∀ q, N ≤ q → m q = none) (k : Nat) : ∃ m1 N' k' m', gR m (some (r + 2)) 4 6 = some (some (r + 5)) ∧ f_X14_init (some N) (ii p) (ii s) (ii v) (fk_up m N (oB 12 (fk_V0 tyX14))) = some m1 ∧ isO m1 (some (r + 5)) 14 = some () ∧ f_J2_add g (some (r + 5)) (some N) (N + 1) (k + 3) m1 = some (1, N', k', m') ∧ (N + 1 ≤ N' ∧ N' ≤ N + 2 ∧ k + 3 ≤ k' ∧ k' ≤ k + 14) ∧ (∀ q, N' ≤ q → m' q = none) ∧ Kt (fun i => i = 14 ∨ i = 300) m m' ∧ (∀ q, q < r → m' q = m q) ∧ PR g m' r (su1 (su1 (su1 (su1 φ (26 + 3 * φ 6) p) (26 + 3 * φ 6 + 1) s) (26 + 3 * φ 6 + 2) v) 6 (φ 6 + 1)) ψ := by
  obtain ⟨q, lw, hk, dk, du, dv, e4, e5, e6, g4, g5, g6, a0, a1, ⟨a2, a3, a4⟩, ⟨a51, a52, a53⟩, a6, a7, a8, a9, a10, a11⟩ := h
  have r2 := hF.2.2.2.1
  have r4 := hF.2.2.2.2.2.1
  have r5 := hF.2.2.2.2.2.2.1
  have r6 := hF.2.2.2.2.2.2.2.1
  have r9 := hF.2.2.2.2.2.2.2.2.1
  obtain ⟨φ', hφ⟩ : ∃ φ', φ' = su1 (su1 (su1 (su1 φ (26 + 3 * φ 6) p) (26 + 3 * φ 6 + 1) s) (26 + 3 * φ 6 + 2) v) 6 (φ 6 + 1) := ⟨_, rfl⟩
  have hn : ∀ j, j ≠ 6 → j ≠ 26 + 3 * φ 6 → j ≠ 26 + 3 * φ 6 + 1 → j ≠ 26 + 3 * φ 6 + 2 → φ' j = φ j := fun j j0 j1 j2 j3 => by rw [hφ, su1_n _ _ j0, su1_n _ _ j3, su1_n _ _ j2, su1_n _ _ j1]
  have hl : ∀ j, j < 26 → j ≠ 6 → φ' j = φ j := fun j j0 j1 => hn j j1 (by omega) (by omega) (by omega)
  have hh : ∀ j, 50 ≤ j → φ' j = φ j := fun j j0 => hn j (by omega) (by omega) (by omega) (by omega)
  have n6 : φ' 6 = φ 6 + 1 := by rw [hφ, su1_e]
  have na : φ' (26 + 3 * φ 6) = p := by rw [hφ, su1_n _ _ (by omega), su1_n _ _ (by omega), su1_n _ _ (by omega), su1_e]
  have nb : φ' (26 + 3 * φ 6 + 1) = s := by rw [hφ, su1_n _ _ (by omega), su1_n _ _ (by omega), su1_e]
  have nc : φ' (26 + 3 * φ 6 + 2) = v := by rw [hφ, su1_n _ _ (by omega), su1_e]
  obtain ⟨D, hD⟩ : ∃ D, D = fk_set (fk_set (fk_set (fk_V0 tyX14) 0 (tI (ii p))) 1 (tI (ii s))) 2 (tI (ii v)) := ⟨_, rfl⟩
  obtain ⟨m1, hm1⟩ : ∃ m1, m1 = fk_up m N (oB 12 D) := ⟨_, rfl⟩
  have hi : f_X14_init (some N) (ii p) (ii s) (ii v) (fk_up m N (oB 12 (fk_V0 tyX14))) = some m1 := by
    unfold f_X14_init
    rw [show isS (some N) = some () from rfl, Option.bind_some, pV_of 0 _ (up_eq ..), Option.bind_some, up_up, pV_of 1 _ (up_eq ..), Option.bind_some, up_up, pV_of 2 _ (up_eq ..), Option.bind_some, up_up, hm1, hD]
  have k1 : Kt (fun _ => False) m m1 := by rw [hm1]; exact Kt.up0 _ (hfr N (Nat.le_refl N))
  have d1 : m1 N = some (true, oB 12 D) := by rw [hm1]; exact up_eq ..
  have hfr1 : ∀ q, N + 1 ≤ q → m1 q = none := fun q hq => by rw [hm1, up_ne _ _ (by omega)]; exact hfr q (by omega)
  have b2 := a2.kt k1 (fun h => h) (fun h => h)
  have b3 := a3.kt k1 (fun h => h) (fun h => h)
  have b4 := a4.kt k1 (fun h => h) (fun h => h)
  obtain ⟨ea', gl', N', k', m', x1, x2, x3, x4, x5, x6, x7, x8, x9⟩ := b4.add2 (k := k + 3) a0 (by omega) (by omega) hfr1 d1 (Or.inr (Or.inr rfl)) (by omega) (by omega)
  have kt : Kt (fun i => i = 14 ∨ i = 300) m m' := (k1.tr x7).mono (fun i hi => hi.elim False.elim id)
  obtain ⟨c2, c2'⟩ := x9 _ _ _ _ b2 (by omega) (fun h1 h2 => fun e => a52 h2 h1 e.symm)
  obtain ⟨c3, c3'⟩ := x9 _ _ _ _ b3 (by omega) (fun h1 h2 => fun e => a53 h2 h1 e.symm)
  obtain ⟨V, v1, v2, v3, v4, v5, v6, v7, v8, v9⟩ := id a1
  refine ⟨m1, N', k', m', gR_of v1 v8, hi, b4.sz.1, x1, by omega, x6, kt, fun q hq => (x8 q hq).trans (by rw [hm1]; exact up_ne _ _ (by omega)), ?_⟩
  rw [← hφ]
  refine ⟨q, lw, fun j => if j = φ 6 then N else hk j, dk, du, dv, e4, e5, ea', g4, g5, gl', a0, ?_, ⟨?_, ?_, ?_⟩, ⟨?_, ?_, ?_⟩, ?_, fun j j0 j1 => ?_, fun j j' j0 j1 j2 j3 => ?_, fun j j0 j1 => ?_, fun j j0 j1 => ?_, fun j j' j0 j1 j2 j3 hj => ?_⟩
  · obtain ⟨V, v1, v2, v3, v4, v5, v6, v7, v8⟩ := a1.kt kt (by decide)
    exact ⟨V, v1, by rw [hl 7 (by omega) (by omega), hl 0 (by omega) (by omega)]; exact v2, by rw [hl 1 (by omega) (by omega)]; exact v3, by rw [hl 3 (by omega) (by omega)]; exact v4, by rw [hl 5 (by omega) (by omega)]; exact v5, v6, v7, v8⟩
  · rw [hl 2 (by omega) (by omega)]
    exact c2
  · rw [hl 4 (by omega) (by omega)]
    exact c3
  · rw [n6]
    exact x2
  · rw [hl 2 (by omega) (by omega), hl 4 (by omega) (by omega)]
    exact a51
  · rw [hl 2 (by omega) (by omega)]
    exact fun h1 _ e => c2' h1 e.symm
  · rw [hl 4 (by omega) (by omega)]
    exact fun h1 _ e => c3' h1 e.symm
  · exact (a6.kt kt (by decide)).cg (hl 5 (by omega) (by omega)) (fun j j0 j1 => hl _ (by omega) (by omega))
  · rw [hl 2 (by omega) (by omega)] at j1
    refine ⟨(a7 j j0 j1).1, ?_⟩
    obtain ⟨W, w1⟩ := (a7 j j0 j1).2.c
    exact ((a7 j j0 j1).2.kt kt ((kt.o w1 (by decide)).trans w1.symm) (r9 j j0 j1).1 (fun i i1 i2 => by show ¬ (i = 14 ∨ i = 300); omega)).cg (fun t' ht' => by
      by_cases h26 : t' < 26
      · exact hl t' h26 (by omega)
      · exact hh t' (by omega)) (hl 5 (by omega) (by omega)) (fun k k0 k1 => ⟨hl _ (by omega) (by omega), hl _ (by omega) (by omega)⟩) ⟨rfl, rfl⟩
  · rw [hl 2 (by omega) (by omega)] at j1 j3
    exact a8 j j' j0 j1 j2 j3
  · dsimp only
    by_cases hj6 : j = φ 6
    · rw [if_pos hj6, hj6]
      exact ⟨x4, by omega, D, x7.o d1 (by decide), by rw [na, hD]; rfl, by rw [nb, hD]; rfl, by rw [nc, hD]; rfl⟩
    · rw [if_neg hj6]
      have hj1 : j < φ 6 := by omega
      exact ⟨by rw [x3 j.toNat (by omega)]; exact (a9 j j0 hj1).1, ((a9 j j0 hj1).2.kt kt (by decide)).cg ⟨hn _ (by omega) (by omega) (by omega) (by omega), hn _ (by omega) (by omega) (by omega) (by omega), hn _ (by omega) (by omega) (by omega) (by omega)⟩⟩
  · rw [hl 4 (by omega) (by omega)] at j1
    refine ⟨(a10 j j0 j1).1, ?_⟩
    have := (a10 j j0 j1).2.kt kt (by decide)
    exact ⟨this.1, by rw [hl 2 (by omega) (by omega)]; exact this.2⟩
  · rw [hl 4 (by omega) (by omega)]
    exact a11 j j' j0 j1 j2 j3 hj
theorem r_heard (h : SS g r tp T n m N t e) (kk : Nat) (hP : PR g m r φ ψ) (hF : FI φ ψ) : LN g r tp T n m N kk t e ((aBeg T n (φ 6 < 8) (t, φ, ψ)).bind (aHrd T n)) (f_X3_heard g (some r) N kk m) := by
  have r2 := hF.2.2.2.1
  have r6 := hF.2.2.2.2.2.2.2.1
  have r7 : (φ 7 = 0 ∧ φ 0 = 0) ∨ (φ 7 = 1 ∧ 2 ≤ φ 0 ∧ φ 0 ≤ 99) := by
    rcases hF.2.2.1 with hh | hh
    · exact Or.inl ⟨hh.1, hh.2.1⟩
    · exact Or.inr ⟨hh.1, hh.2.1⟩
  obtain ⟨wd, hwd⟩ : ∃ wd, wd = if φ 7 = 0 then -1 else φ 0 := ⟨_, rfl⟩
  have rwd : -1 ≤ wd ∧ wd ≤ 99 := by
    rw [hwd]
    split <;> omega
  obtain ⟨N1, k1, m1, t1, e1, a1, s1, f1, a4⟩ := o_begins h kk hP hF (a := ii (φ 6)) (b := 8) (φ 6 < 8) (by rw [show (8 : Int32) = ii 8 from rfl, ne_eq, ii_eq (by omega) (by omega)]; omega)
  have hP1 := hP.kp hF f1.2.1
  obtain ⟨N2, k2, m2, t2, e2, p, b1, s2, f2, b4, b5⟩ := o_told s1 k1 hP1 hF
  obtain ⟨N3, k3, m3, t3, e3, c1, s3, f3, c4⟩ := o_needs s2 k2 (i := 23) (by omega)
  obtain ⟨m4, e4, d1, s4, f4, d4⟩ := o_wholeAt s3 k3 (lo := 1) (hi := 30) (by omega) (by omega)
  have hP4 := hP.kp hF (((f1.tr f2).tr f3).tr f4).2.1
  obtain ⟨m5, e5, x1, x2, s5, f5, h5⟩ := o_chk2 s4 k3 (¬ isH φ p t3.2.2.2.1) (k := 3) (by omega)
  obtain ⟨N6, k6, m6, t6, y1, s6, f6, y4⟩ := o_on s5 k3
  have hP6 := hP.kp hF ((((((f1.tr f2).tr f3).tr f4).tr f5).tr f6)).2.1
  obtain ⟨N7, k7, m7, t7, e7, v, z1, s7, f7, z4⟩ := o_part s6 k6 (lo := 0) (hi := wd) (i := 20) (by omega) (by omega) (by omega)
  have hf := (((((f1.tr f2).tr f3).tr f4).tr f5).tr f6).tr f7
  have hw0 : e1.1 = 0 → φ 6 < 8 ∧ wd = φ 0 := by
    intro h0
    have := (a4.live h0).2
    unfold aBeg at this
    by_cases hh : φ 6 < 8
    · rw [if_pos hh] at this
      by_cases h7 : φ 7 = 0
      · rw [if_pos (show ((t, φ, ψ) : Ls).2.1 7 = 0 from h7)] at this
        cases this
      · exact ⟨hh, by rw [hwd, if_neg h7]⟩
    · rw [if_neg hh] at this
      cases this
  have hL : Lv ((aBeg T n (φ 6 < 8) (t, φ, ψ)).bind (aHrd T n)) (t7, su1 (su1 (su1 (su1 φ (26 + 3 * φ 6) p) (26 + 3 * φ 6 + 1) t3.2.2.2.1) (26 + 3 * φ 6 + 2) v) 6 (φ 6 + 1), ψ) e e7 := by
    refine a4.bind ?_
    unfold aHrd
    refine b4.bind ?_
    refine (c4.cg (ρ' := aMust T n (kw 23) (aOn T n t1)) (v' := t3) (fun h0 => by rw [b5 h0]; exact ⟨rfl, rfl⟩)).bind ?_
    refine d4.bind ?_
    have hsw : ∀ {X Y : Except Er Ls}, (if isH φ p t3.2.2.2.1 then X else Y) = if ¬ isH φ p t3.2.2.2.1 then Y else X := fun {X Y} => by
      by_cases hh : isH φ p t3.2.2.2.1
      · rw [if_pos hh, if_neg (fun k => k hh)]
      · rw [if_neg hh, if_pos hh]
    show Lv (if isH φ p t3.2.2.2.1 then _ else _) _ _ _
    rw [hsw]
    refine Lv.ite (k := 3) (p := t3.2.1) (by omega) h5 ?_
    refine (z4.cg (ρ' := aPt T n (kw 20) 0 (φ 0) (aOn T n t3)) (v' := (v, t7)) (fun h0 => ⟨?_, rfl⟩)).bind (Lv.ok _ _)
    have h40 : e4.1 = 0 := by
      by_cases hh : e4.1 = 0
      · exact hh
      · rw [if_neg (fun k => hh k.1)] at h5
        rw [← h5]
        exact h0
    rw [y4 h0, (hw0 (b4.live (c4.live (d4.live h40).1).1).1).2]
  have hp : e2.1 = 0 → 0 ≤ p ∧ p < φ 2 := fun h0 => (kn_lt hF (b4.live h0).2).2
  have hj : ∀ res, (f_X3_heard_J59 g (some r) (ii p) (ii t3.2.2.2.1) N3 k3 m5 = res) → f_X3_heard g (some r) N kk m = res := by
    intro res hres
    obtain ⟨V, v1, v2, v3, v4, v5, v6, v7, v8, -⟩ := hP.pq
    obtain ⟨V3, w1, -⟩ := hP4.pq
    have hl6 : isO m (some (r + 5)) 14 = some () ∧ f_J2_size (some (r + 5)) m = some (ii (φ 6)) := by
      obtain ⟨q, lw, hk, dk, du, dv, e4, e5, e6, g4, g5, g6, -, -, ⟨-, -, z⟩, -⟩ := hP
      exact z.sz
    unfold f_X3_heard
    rw [h.pi, Option.bind_some, gR_of v1 v8, Option.bind_some, hl6.1, Option.bind_some, hl6.2, Option.bind_some, h.o, Option.bind_some, a1, bn3_some, s1.o, Option.bind_some, b1, bn4_some, s2.o, Option.bind_some, c1, bn3_some, s3.o, Option.bind_some, show f_X3_wholeAt (some r) 1 30 m3 = _ from d1, bn2_some, s4.o, Option.bind_some, s4.ov, Option.bind_some]
    by_cases h0 : e4.1 = 0
    · obtain ⟨p0, p1⟩ := hp (c4.live (d4.live h0).1).1
      have hv3 := s3.ok.2.2.2.2.2.2
      rw [if_pos h0, if_pos rfl, s4.pi, Option.bind_some, isO_of w1, Option.bind_some, k_isHeard hP4 hF p0 p1 hv3, Option.bind_some]
      by_cases hc : isH φ p t3.2.2.2.1
      · rw [if_pos hc, if_neg (show ¬ (1 : Int32) = 0 by decide), Option.bind_some, show (3 : Int32) = ii 3 from rfl, x2 h0 (fun k => k hc), Option.bind_some, hres]
      · rw [if_neg hc, if_pos rfl, ← x1 (Or.inr hc), hres]
    · rw [if_neg h0, if_neg (by decide), ← x1 (Or.inl h0), hres]
  have hrun : ∀ res, (f_X3_isOver (some r) m7).bind (fun z13 => if z13 = 0 then ((gR m7 (some r) 2 1).bind fun z14 => (gR m7 z14 4 6).bind fun z15 => (isS (some N7)).bind fun u17 => (f_X14_init (some N7) (ii p) (ii t3.2.2.2.1) (ii v) (fk_up m7 N7 (oB 12 (fk_V0 tyX14)))).bind fun m18 => (isO m18 z15 14).bind fun u19 => bn4 (f_J2_add g z15 (some N7) (N7 + 1) (k7 + 3) m18) fun z20 n22 k23 m21 => some (n22, k23, m21)) else (some (N7, k7, m7))) = res → f_X3_heard_J59 g (some r) (ii p) (ii t3.2.2.2.1) N3 k3 m5 = res := by
    intro res hres
    obtain ⟨V6, w1, w2, -⟩ := hP6.pq
    unfold f_X3_heard_J59
    rw [s5.o, Option.bind_some, y1, bn3_some, s6.pi, Option.bind_some, gI_of w1 w2, Option.bind_some, s6.o, Option.bind_some, ← hwd, show f_X3_part g (some r) (some (g 20)) 0 (ii wd) N6 k6 m6 = _ from z1, bn4_some, s7.o, Option.bind_some]
    exact hres
  by_cases h7 : e7.1 = 0
  · obtain ⟨h50, hw⟩ := z4.live h7
    have h40 : e4.1 = 0 ∧ ¬ isH φ p t3.2.2.2.1 := by
      by_cases hh : e4.1 = 0 ∧ ¬¬ isH φ p t3.2.2.2.1
      · rw [if_pos hh, er1_l hh.1] at h5
        rw [h5] at h50
        exact absurd h50 (show ¬ (3 : Int) = 0 by decide)
      · rw [if_neg hh] at h5
        rw [h5] at h50
        exact ⟨h50, fun k => hh ⟨h50, fun k' => k' k⟩⟩
    have h10 := (b4.live (c4.live (d4.live h40.1).1).1).1
    obtain ⟨m8, N9, k9, m9, g1, g2, g3, g4, g5, g6, g7, g8, hP'⟩ := (hP.kp hF hf.2.1).hrd hF (hw0 h10).1 p t3.2.2.2.1 v s7.2.2.2.2.1.2 s7.2.1 k7
    have s9 := s7.kt g7 (by decide) (by decide) (by decide) (by decide) (by omega) g6
    refine ⟨N9, k9, m9, t7, e7, _, hj _ (hrun _ ?_), s9, ⟨by have := hf.1; omega, hf.2.2.tr (fun q hq => Or.inl (g8 q hq))⟩, hL, fun _ => ⟨rfl, hP'⟩, fun h0 => absurd h7 h0⟩
    rw [s7.ov, Option.bind_some, if_pos h7, if_pos rfl, s7.pi, Option.bind_some, g1, Option.bind_some, show isS (some N7) = some () from rfl, Option.bind_some, g2, Option.bind_some, g3, Option.bind_some, g4, bn4_some]
  · refine ⟨N7, k7, m7, t7, e7, _, hj _ (hrun _ ?_), s7, hf.rm (Lo.rfl' _ _), hL, fun h0 => absurd h0 h7, fun _ => hf.2.1⟩
    rw [s7.ov, Option.bind_some, if_neg h7, if_neg (by decide)]
end LNH
