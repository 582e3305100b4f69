/-! PLAIN 70: the component's lines: debt -/
set_option maxRecDepth 100000
theorem Lq.ar {m : fk_M} {e0 r la ea : Nat} {sz : Int} {gl : Nat → Option Nat} (h : Lq m e0 r la sz gl ea) : ∃ w c, m ea = some (w, aQ c gl) := by
  obtain ⟨-, ⟨s1, s2, w, s3⟩ | ⟨s1, s2, s3, s4⟩⟩ := h
  · exact ⟨w, 0, s3⟩
  · exact ⟨true, 10, s4⟩
theorem Lq.lc {m : fk_M} {e0 r la ea : Nat} {sz : Int} {gl : Nat → Option Nat} (h : Lq m e0 r la sz gl ea) : ∃ V, m la = some (true, oB 14 V) := by
  obtain ⟨⟨V, c, v1, -⟩, -⟩ := h
  exact ⟨V, v1⟩
theorem Lq.lo {m : fk_M} {e0 r la ea : Nat} {sz : Int} {gl : Nat → Option Nat} (h : Lq m e0 r la sz gl ea) : (sz = 0 → ea = e0) ∧ (sz ≠ 0 → r ≤ ea) := by
  obtain ⟨-, ⟨s1, s2, w, s3⟩ | ⟨s1, s2, s3, s4⟩⟩ := h
  · exact ⟨fun _ => s2, fun h => absurd s1 h⟩
  · exact ⟨fun h => by omega, fun _ => s3⟩
theorem Lq.add2 {g : Nat → Nat} {m : fk_M} {r la ea N k s ci : Nat} {sz : Int} {gl : Nat → Option Nat} {w : Bool} {V : Nat → fk_T} (h : Lq m (g 40) r la sz gl ea) (hg : g 40 < r) (hrN : r ≤ N) (hrl : r ≤ la) (hfr : ∀ q, N ≤ q → m q = none) (hs : m s = some (w, oB ci V)) (hci : ci = 6 ∨ ci = 11 ∨ ci = 12) (h0 : 0 ≤ sz) (hsz : sz < 10) : ∃ ea' gl' N' k' m', f_J2_add g (some la) (some s) N k m = some (1, N', k', m') ∧ Lq m' (g 40) r la (sz + 1) gl' ea' ∧ (∀ i : Nat, (i : Int) < sz → gl' i = gl i) ∧ gl' sz.toNat = some s ∧ (N ≤ N' ∧ N' ≤ N + 1 ∧ k ≤ k' ∧ k' ≤ k + 11) ∧ (∀ q, N' ≤ q → m' q = none) ∧ Kt (fun i => i = 14 ∨ i = 300) m m' ∧ (∀ q, q < r → m' q = m q) ∧ ∀ la2 sz2 gl2 ea2, Lq m (g 40) r la2 sz2 gl2 ea2 → la2 ≠ la → (sz ≠ 0 → sz2 ≠ 0 → ea ≠ ea2) → Lq m' (g 40) r la2 sz2 gl2 ea2 ∧ (sz2 ≠ 0 → ea' ≠ ea2) := by
  obtain ⟨ea', gl', N', k', m', p1, p2, p3, p4, p5, p6, p7, p8, p9⟩ := h.add (k := k) hg hrN hfr hs hci h0 hsz
  obtain ⟨U, u1⟩ := h.lc
  obtain ⟨wa, ca, u2⟩ := h.ar
  have hr' : r ≤ ea' := by
    rcases p6 with ⟨-, h2, h3⟩ | ⟨-, h2⟩
    · rw [h2]
      exact h.lo.2 h3
    · omega
  have hno : ∀ q w c, m q = some (w, c) → tg c ≠ 300 → q ≠ ea' := fun q w c hq hc e => by
    rcases p6 with ⟨-, h2, h3⟩ | ⟨-, h2⟩
    · rw [e, h2, u2] at hq
      cases hq
      exact hc rfl
    · rw [e, h2, hfr N (Nat.le_refl N)] at hq
      cases hq
  have hnl : ∀ q w c, m q = some (w, c) → tg c ≠ 14 → q ≠ la := fun q w c hq hc e => by
    rw [e, u1] at hq
    cases hq
    exact hc rfl
  refine ⟨ea', gl', N', k', m', p1, p2, p3, p4, by omega, p8, ⟨fun q w c hq hn => ?_, fun q w' hs' => hs'.cg2 (fun q' hq' => ?_)⟩, fun q hq => p5 q (by omega) (by omega), fun la2 sz2 gl2 ea2 hl hne hna => ?_⟩
  · exact (p5 q (hnl q w c hq (fun e => hn (Or.inl e))) (hno q w c hq (fun e => hn (Or.inr e)))).trans hq
  · rcases hq' with ⟨wr, V', hh⟩ | ⟨wr, L', gg, hh⟩
    · exact p5 q' (hnl _ _ _ hh (by show ¬ 16 = 14; decide)) (hno _ _ _ hh (by show ¬ 16 = 300; decide))
    · exact p5 q' (hnl _ _ _ hh (by show ¬ 101 = 14; decide)) (hno _ _ _ hh (by show ¬ 101 = 300; decide))
  · obtain ⟨V2, x1⟩ := hl.lc
    obtain ⟨w2, c2, x2⟩ := hl.ar
    have hee : ea2 ≠ ea' := fun e => by
      rcases p6 with ⟨-, h2, h3⟩ | ⟨-, h2⟩
      · by_cases hz : sz2 = 0
        · have := hl.lo.1 hz
          have := h.lo.2 h3
          omega
        · exact hna h3 hz (by omega)
      · rw [e, h2, hfr N (Nat.le_refl N)] at x2
        cases x2
    exact ⟨hl.cg (p5 la2 hne (hno _ _ _ x1 (by show ¬ 14 = 300; decide))) (p5 ea2 (hnl _ _ _ x2 (by show ¬ 300 = 14; decide)) hee), fun _ e => hee e.symm⟩
section LND
variable {g : Nat → Nat} {r tp : Nat} {T : Int → Int} {n : Int} {m : fk_M} {N : Nat} {t : Tkn} {e : Er} {φ ψ : Int → Int}
theorem k_isOwed (h : PR g m r φ ψ) (hF : FI φ ψ) {p p' : Int} (p0 : 0 ≤ p) (p1 : p < φ 2) (q0 : 0 ≤ p') (q1 : p' < φ 2) : f_X5_isOwed (some (r + 2)) (ii p) (ii p') m = some (if 0 < ψ (10 + 5 * p + p') then 1 else 0) := by
  obtain ⟨q, lw, hk, dk, du, dv, e4, e5, e6, g4, g5, g6, a0, ⟨V, v1, v2, v3, v4, v5, v6, v7, v8, v9⟩, ⟨a2, a3, a4⟩, a5, a6, a7, a8, a9, a10, a11⟩ := h
  have r2 := hF.2.2.2.1
  have r4 := hF.2.2.2.2.2.1
  have hL : ∀ (d N : Nat) (k : Int), 0 ≤ k → k + d = φ 4 → d < N → (∀ j, 0 ≤ j → j < k → ¬ (du j = p ∧ dv j = p')) → f_X5_isOwed_L2 (some (r + 2)) (ii p) (ii p') m N (ii k) = some (if 0 < ψ (10 + 5 * p + p') then 1 else 0) := by
    intro d
    induction d with
    | zero =>
      intro N k h1 h2 h3 h4
      obtain ⟨N, rfl⟩ : ∃ M, N = M + 1 := ⟨N - 1, by omega⟩
      rw [f_X5_isOwed_L2, gR_of v1 v7, Option.bind_some, a3.sz.1, Option.bind_some, a3.sz.2, Option.bind_some, if_pos (by rw [ii_le (by omega) (by omega)]; omega), if_neg (fun hh => by
        obtain ⟨j, j0, j1, j2⟩ := a11 p p' p0 (by omega) q0 (by omega) hh
        exact h4 j j0 (by omega) j2)]
    | succ d ih =>
      intro N k h1 h2 h3 h4
      obtain ⟨N, rfl⟩ : ∃ M, N = M + 1 := ⟨N - 1, by omega⟩
      obtain ⟨c1, ⟨D, d1, d2, d3, d4⟩, b1, b2, b3⟩ := a10 k h1 (by omega)
      have hg : f_J2_get (some (r + 4)) (ii k) m = some (some (dk k)) := by rw [a3.get h1 (by omega), c1]
      have hst : ¬ (du k = p ∧ dv k = p') → f_X5_isOwed_J51 (f_X5_isOwed_L2 (some (r + 2)) (ii p) (ii p') m N) (some (r + 2)) (ii p) (ii p') (ii k) m = some (if 0 < ψ (10 + 5 * p + p') then 1 else 0) := by
        intro hno
        unfold f_X5_isOwed_J51
        rw [show (1 : Int32) = ii 1 from rfl, ii_add]
        exact ih N (k + 1) (by omega) (by omega) (by omega) (fun j j0 j1 => by
          by_cases hjk : j = k
          · rw [hjk]
            exact hno
          · exact h4 j j0 (by omega))
      rw [f_X5_isOwed_L2]
      simp only [gR_of v1 v7, a3.sz.1, a3.sz.2, hg, cst_of d1, gI_of d1 d2, gI_of d1 d3, Option.bind_some]
      rw [if_neg (by rw [ii_le (by omega) (by omega)]; omega)]
      by_cases hu : du k = p
      · rw [if_pos (show ii (du k) = ii p by rw [hu])]
        by_cases hv : dv k = p'
        · rw [hu, hv] at b3
          rw [if_pos (show ii (dv k) = ii p' by rw [hv]), if_pos b3]
        · rw [if_neg (show ¬ ii (dv k) = ii p' by rw [ii_eq (by omega) (by omega)]; exact hv)]
          exact hst (fun hh => hv hh.2)
      · rw [if_neg (show ¬ ii (du k) = ii p by rw [ii_eq (by omega) (by omega)]; exact hu)]
        exact hst (fun hh => hu hh.1)
  exact hL (φ 4).toNat fk_fuel 0 (by omega) (by omega) (by unfold fk_fuel; omega) (fun j j0 j1 => by omega)
/-- a debt is kept -/
theorem PR.debt (h : PR g m r φ ψ) (hF : FI φ ψ) (h4 : φ 4 < 10) {p p' v : Int} (p0 : 0 ≤ p) (p1 : p < φ 2) (q0 : 0 ≤ p') (q1 : p' < φ 2) (hno : ¬ 0 < ψ (10 + 5 * p + p')) (hv : 1 ≤ v) (hrN : r + 7 ≤ N) (hfr : ∀ q, N ≤ q → m q = none) (k : Nat) : ∃ m1 N' k' m', gR m (some (r + 2)) 4 5 = some (some (r + 4)) ∧ f_X13_init (some N) (ii p) (ii p') (ii v) (fk_up m N (oB 11 (fk_V0 tyX13))) = some m1 ∧ isO m1 (some (r + 4)) 14 = some () ∧ f_J2_add g (some (r + 4)) (some N) (N + 1) (k + 3) m1 = some (1, N', k', m') ∧ (N + 1 ≤ N' ∧ N' ≤ N + 2 ∧ k + 3 ≤ k' ∧ k' ≤ k + 14) ∧ (∀ q, N' ≤ q → m' q = none) ∧ Kt (fun i => i = 14 ∨ i = 300) m m' ∧ (∀ q, q < r → m' q = m q) ∧ PR g m' r (su1 φ 4 (φ 4 + 1)) (su1 ψ (10 + 5 * p + p') v) := by
  obtain ⟨q, lw, hk, dk, du, dv, e4, e5, e6, g4, g5, g6, a0, a1, ⟨a2, a3, a4⟩, ⟨a51, a52, a53⟩, a6, a7, a8, a9, a10, a11⟩ := h
  have r2 := hF.2.2.2.1
  have r4 := hF.2.2.2.2.2.1
  have r5 := hF.2.2.2.2.2.2.1
  have r6 := hF.2.2.2.2.2.2.2.1
  have r9 := hF.2.2.2.2.2.2.2.2.1
  obtain ⟨φ', hφ⟩ : ∃ φ', φ' = su1 φ 4 (φ 4 + 1) := ⟨_, rfl⟩
  obtain ⟨ψ', hψ⟩ : ∃ ψ', ψ' = su1 ψ (10 + 5 * p + p') v := ⟨_, rfl⟩
  have hn : ∀ j, j ≠ 4 → φ' j = φ j := fun j j0 => by rw [hφ, su1_n _ _ j0]
  have n4 : φ' 4 = φ 4 + 1 := by rw [hφ, su1_e]
  have hs : ∀ j, j ≠ 10 + 5 * p + p' → ψ' j = ψ j := fun j j0 => by rw [hψ, su1_n _ _ j0]
  have sv : ψ' (10 + 5 * p + p') = v := by rw [hψ, su1_e]
  obtain ⟨D, hD⟩ : ∃ D, D = fk_set (fk_set (fk_set (fk_V0 tyX13) 0 (tI (ii p))) 1 (tI (ii p'))) 2 (tI (ii v)) := ⟨_, rfl⟩
  obtain ⟨m1, hm1⟩ : ∃ m1, m1 = fk_up m N (oB 11 D) := ⟨_, rfl⟩
  have hi : f_X13_init (some N) (ii p) (ii p') (ii v) (fk_up m N (oB 11 (fk_V0 tyX13))) = some m1 := by
    unfold f_X13_init
    rw [show isS (some N) = some () from rfl, Option.bind_some, pV_of 0 _ (up_eq ..), Option.bind_some, up_up, pV_of 1 _ (up_eq ..), Option.bind_some, up_up, pV_of 2 _ (up_eq ..), Option.bind_some, up_up, hm1, hD]
  have k1 : Kt (fun _ => False) m m1 := by rw [hm1]; exact Kt.up0 _ (hfr N (Nat.le_refl N))
  have d1 : m1 N = some (true, oB 11 D) := by rw [hm1]; exact up_eq ..
  have hfr1 : ∀ q, N + 1 ≤ q → m1 q = none := fun q hq => by rw [hm1, up_ne _ _ (by omega)]; exact hfr q (by omega)
  have b2 := a2.kt k1 (fun h => h) (fun h => h)
  have b3 := a3.kt k1 (fun h => h) (fun h => h)
  have b4 := a4.kt k1 (fun h => h) (fun h => h)
  obtain ⟨ea', gl', N', k', m', x1, x2, x3, x4, x5, x6, x7, x8, x9⟩ := b3.add2 (k := k + 3) a0 (by omega) (by omega) hfr1 d1 (Or.inr (Or.inl rfl)) (by omega) h4
  have kt : Kt (fun i => i = 14 ∨ i = 300) m m' := (k1.tr x7).mono (fun i hi => hi.elim False.elim id)
  obtain ⟨c2, c2'⟩ := x9 _ _ _ _ b2 (by omega) (fun h1 h2 => fun e => a51 h2 h1 e.symm)
  obtain ⟨c4, c4'⟩ := x9 _ _ _ _ b4 (by omega) a53
  obtain ⟨V, v1, v2, v3, v4, v5, v6, v7, v8⟩ := id a1
  refine ⟨m1, N', k', m', gR_of v1 v7, hi, b3.sz.1, x1, by omega, x6, kt, fun q hq => (x8 q hq).trans (by rw [hm1]; exact up_ne _ _ (by omega)), ?_⟩
  rw [← hφ, ← hψ]
  refine ⟨q, lw, hk, fun j => if j = φ 4 then N else dk j, fun j => if j = φ 4 then p else du j, fun j => if j = φ 4 then p' else dv j, e4, ea', e6, g4, gl', g6, a0, ?_, ⟨?_, ?_, ?_⟩, ⟨?_, ?_, ?_⟩, ?_, fun j j0 j1 => ?_, fun j j' j0 j1 j2 j3 => ?_, fun j j0 j1 => ?_, fun j j0 j1 => ?_, fun j j' j0 j1 j2 j3 hj => ?_⟩
  · obtain ⟨V, v1, v2, v3, v4, v5, v6, v7, v8⟩ := a1.kt kt (by decide)
    exact ⟨V, v1, by rw [hn 7 (by omega), hn 0 (by omega)]; exact v2, by rw [hn 1 (by omega)]; exact v3, by rw [hn 3 (by omega)]; exact v4, by rw [hn 5 (by omega)]; exact v5, v6, v7, v8⟩
  · rw [hn 2 (by omega)]
    exact c2
  · rw [n4]
    exact x2
  · rw [hn 6 (by omega)]
    exact c4
  · rw [hn 2 (by omega)]
    exact fun h1 _ e => c2' h1 e.symm
  · rw [hn 2 (by omega), hn 6 (by omega)]
    exact a52
  · rw [hn 6 (by omega)]
    exact fun _ h1 => c4' h1
  · exact (a6.kt kt (by decide)).cg (hn 5 (by omega)) (fun j j0 j1 => hn _ (by omega))
  · rw [hn 2 (by omega)] at j1
    refine ⟨(a7 j j0 j1).1, ?_⟩
    obtain ⟨W, w1⟩ := (a7 j j0 j1).2.c
    exact ((a7 j j0 j1).2.kt kt ((kt.o w1 (by decide)).trans w1.symm) (r9 j j0 j1).1 (fun i i1 i2 => by show ¬ (i = 14 ∨ i = 300); omega)).cg (fun t' ht' => hn t' (by omega)) (hn 5 (by omega)) (fun k k0 k1 => ⟨hn _ (by omega), hn _ (by omega)⟩) ⟨hs _ (by omega), hs _ (by omega)⟩
  · rw [hn 2 (by omega)] at j1 j3
    exact a8 j j' j0 j1 j2 j3
  · rw [hn 6 (by omega)] at j1
    exact ⟨(a9 j j0 j1).1, ((a9 j j0 j1).2.kt kt (by decide)).cg ⟨hn _ (by omega), hn _ (by omega), hn _ (by omega)⟩⟩
  · dsimp only
    by_cases hj4 : j = φ 4
    · rw [if_pos hj4, if_pos hj4, if_pos hj4, hj4]
      refine ⟨x4, ⟨D, x7.o d1 (by decide), by rw [hD]; rfl, by rw [hD]; rfl, by rw [sv, hD]; rfl⟩, by rw [hn 2 (by omega)]; omega, by rw [hn 2 (by omega)]; omega, by rw [sv]; omega⟩
    · rw [if_neg hj4, if_neg hj4, if_neg hj4]
      have hj1 : j < φ 4 := by omega
      obtain ⟨z1, ⟨Z, z2, z3, z4, z5⟩, z6, z7, z8⟩ := a10 j j0 hj1
      have hne : 10 + 5 * du j + dv j ≠ 10 + 5 * p + p' := fun e => by
        rw [e] at z8
        exact hno z8
      refine ⟨by rw [x3 j.toNat (by omega)]; exact z1, ⟨Z, kt.o z2 (by decide), z3, z4, by rw [hs _ hne]; exact z5⟩, by rw [hn 2 (by omega)]; exact z6, by rw [hn 2 (by omega)]; exact z7, by rw [hs _ hne]; exact z8⟩
  · by_cases hne : 10 + 5 * j + j' = 10 + 5 * p + p'
    · refine ⟨φ 4, by omega, by omega, ?_, ?_⟩
      · dsimp only
        rw [if_pos rfl]
        omega
      · dsimp only
        rw [if_pos rfl]
        omega
    · rw [hs _ hne] at hj
      obtain ⟨k, k0, k1, k2, k3⟩ := a11 j j' j0 j1 j2 j3 hj
      refine ⟨k, k0, by omega, ?_, ?_⟩
      · dsimp only
        rw [if_neg (by omega)]
        exact k2
      · dsimp only
        rw [if_neg (by omega)]
        exact k3
theorem r_debt (h : SS g r tp T n m N t e) (kk : Nat) (hP : PR g m r φ ψ) (hF : FI φ ψ) : LN g r tp T n m N kk t e ((aBeg T n (φ 4 < 10) (t, φ, ψ)).bind (aDebt T n)) (f_X3_debt g (some r) N kk m) := by
  have r2 := hF.2.2.2.1
  have r4 := hF.2.2.2.2.2.1
  obtain ⟨N1, k1, m1, t1, e1, a1, s1, f1, a4⟩ := o_begins h kk hP hF (a := ii (φ 4)) (b := 10) (φ 4 < 10) (by rw [show (10 : Int32) = ii 10 from rfl, ne_eq, ii_eq (by omega) (by omega)]; omega)
  have hP1 := hP.kp hF f1.2.1
  obtain ⟨N2, k2, m2, t2, e2, p, b1, s2, f2, b4, b5⟩ := o_told s1 k1 hP1 hF
  have hP2 := hP1.kp hF f2.2.1
  obtain ⟨m3, e3, p', c1, s3, f3, c4⟩ := o_known s2 k2 hP2 hF
  have hP3 := hP2.kp hF f3.2.1
  obtain ⟨m4, e4, d1, d2, s4, f4, h4⟩ := o_chk2 s3 k2 (¬ (p = p' ∨ 0 < ψ (10 + 5 * p + p'))) (k := 3) (by omega)
  obtain ⟨N5, k5, m5, t5, x1, s5, f5, x4⟩ := o_on s4 k2
  obtain ⟨N6, k6, m6, t6, e6, y1, s6, f6, y4⟩ := o_whole s5 k5 (lo := 1) (hi := 99) (by omega) (by omega)
  have hf := ((((f1.tr f2).tr f3).tr f4).tr f5).tr f6
  have hL : Lv ((aBeg T n (φ 4 < 10) (t, φ, ψ)).bind (aDebt T n)) (t6, su1 φ 4 (φ 4 + 1), su1 ψ (10 + 5 * p + p') t5.2.2.2.1) e e6 := by
    refine a4.bind ?_
    unfold aDebt
    refine b4.bind ?_
    refine (c4.cg (ρ' := aKn φ (aOn T n t1)) (v' := (p', aOn T n t1)) (fun h0 => by rw [b5 h0]; exact ⟨rfl, rfl⟩)).bind ?_
    have hsw : ∀ {X Y : Except Er Ls}, (if p = p' ∨ 0 < ψ (10 + 5 * p + p') then X else Y) = if ¬ (p = p' ∨ 0 < ψ (10 + 5 * p + p')) then Y else X := fun {X Y} => by
      by_cases hh : p = p' ∨ 0 < ψ (10 + 5 * p + p')
      · rw [if_pos hh, if_neg (fun k => k hh)]
      · rw [if_neg hh, if_pos hh]
    show Lv (if p = p' ∨ 0 < ψ (10 + 5 * p + p') then _ else _) _ _ _
    rw [hsw]
    by_cases hl : e3.1 = 0
    · have ht2 := b5 (c4.live hl).1
      rw [ht2] at h4 x4
      refine Lv.ite (k := 3) (p := (aOn T n t1).2.1) (by omega) h4 ?_
      exact (y4.cg (ρ' := aWh T n 1 99 (aOn T n (aOn T n t1))) (v' := (t5.2.2.2.1, t6)) (fun h0 => ⟨by rw [x4 h0], rfl⟩)).bind (Lv.ok _ _)
    · have e43 : e4 = e3 := by rw [h4, if_neg (fun k => hl k.1)]
      rw [e43] at y4
      exact ⟨y4.1, fun h0 => absurd h0 hl⟩
  have hp : e2.1 = 0 → 0 ≤ p ∧ p < φ 2 := fun h0 => (kn_lt hF (b4.live h0).2).2
  have hp' : e3.1 = 0 → 0 ≤ p' ∧ p' < φ 2 := fun h0 => (kn_lt hF (c4.live h0).2).2
  have hj : ∀ res, (f_X3_debt_J55 g (some r) (ii p) (ii p') N2 k2 m4 = res) → f_X3_debt g (some r) N kk m = res := by
    intro res hres
    obtain ⟨V, v1, v2, v3, v4, v5, v6, v7, -⟩ := hP.pq
    obtain ⟨V3, w1, -⟩ := hP3.pq
    have hl5 : isO m (some (r + 4)) 14 = some () ∧ f_J2_size (some (r + 4)) m = some (ii (φ 4)) := by
      obtain ⟨q, lw, hk, dk, du, dv, e4, e5, e6, g4, g5, g6, -, -, ⟨-, z, -⟩, -⟩ := hP
      exact z.sz
    have j50 : e3.1 = 0 → (p = p' ∨ 0 < ψ (10 + 5 * p + p')) → f_X3_debt_J50 g (some r) (ii p) (ii p') N2 k2 m3 = res := by
      intro h0 hc
      unfold f_X3_debt_J50
      rw [s3.o, Option.bind_some, show (3 : Int32) = ii 3 from rfl, d2 h0 (fun k => k hc), Option.bind_some, hres]
    unfold f_X3_debt
    rw [h.pi, Option.bind_some, gR_of v1 v7, Option.bind_some, hl5.1, Option.bind_some, hl5.2, Option.bind_some, h.o, Option.bind_some, a1, bn3_some, s1.o, Option.bind_some, b1, bn4_some, s2.o, Option.bind_some, c1, bn2_some, s3.o, Option.bind_some, s3.ov, Option.bind_some]
    by_cases h0 : e3.1 = 0
    · obtain ⟨p0, p1⟩ := hp (c4.live h0).1
      obtain ⟨q0, q1⟩ := hp' h0
      rw [if_pos h0, if_pos rfl]
      by_cases hc : p = p'
      · rw [if_pos (show ii p = ii p' by rw [hc]), j50 h0 (Or.inl hc)]
      · rw [if_neg (show ¬ ii p = ii p' by rw [ii_eq (by omega) (by omega)]; exact hc), s3.pi, Option.bind_some, isO_of w1, Option.bind_some, k_isOwed hP3 hF p0 p1 q0 q1, Option.bind_some]
        by_cases hc2 : 0 < ψ (10 + 5 * p + p')
        · rw [if_pos hc2, if_neg (show ¬ (1 : Int32) = 0 by decide), j50 h0 (Or.inr hc2)]
        · rw [if_neg hc2, if_pos rfl, ← d1 (Or.inr (fun k => k.elim hc hc2)), hres]
    · rw [if_neg h0, if_neg (by decide), ← d1 (Or.inl h0), hres]
  have hrun : ∀ res, (f_X3_isOver (some r) m6).bind (fun z11 => if z11 = 0 then ((gR m6 (some r) 2 1).bind fun z12 => (gR m6 z12 4 5).bind fun z13 => (isS (some N6)).bind fun u15 => (f_X13_init (some N6) (ii p) (ii p') (ii t5.2.2.2.1) (fk_up m6 N6 (oB 11 (fk_V0 tyX13)))).bind fun m16 => (isO m16 z13 14).bind fun u17 => bn4 (f_J2_add g z13 (some N6) (N6 + 1) (k6 + 3) m16) fun z18 n20 k21 m19 => some (n20, k21, m19)) else (some (N6, k6, m6))) = res → f_X3_debt_J55 g (some r) (ii p) (ii p') N2 k2 m4 = res := by
    intro res hres
    unfold f_X3_debt_J55
    rw [s4.o, Option.bind_some, x1, bn3_some, s5.o, Option.bind_some, show f_X3_whole g (some r) 1 99 N5 k5 m5 = _ from y1, bn4_some, s6.o, Option.bind_some]
    exact hres
  by_cases h6 : e6.1 = 0
  · obtain ⟨h40, hw⟩ := y4.live h6
    have h30 : e3.1 = 0 ∧ ¬ (p = p' ∨ 0 < ψ (10 + 5 * p + p')) := by
      by_cases hh : e3.1 = 0 ∧ ¬¬ (p = p' ∨ 0 < ψ (10 + 5 * p + p'))
      · rw [if_pos hh, er1_l hh.1] at h4
        rw [h4] at h40
        exact absurd h40 (show ¬ (3 : Int) = 0 by decide)
      · rw [if_neg hh] at h4
        rw [h4] at h40
        exact ⟨h40, fun k => hh ⟨h40, fun k' => k' k⟩⟩
    have h20 := (c4.live h30.1).1
    obtain ⟨p0, p1⟩ := hp h20
    obtain ⟨q0, q1⟩ := hp' h30.1
    have h410 : φ 4 < 10 := by
      have := (a4.live (b4.live h20).1).2
      unfold aBeg at this
      by_cases hh : φ 4 < 10
      · exact hh
      · rw [if_neg hh] at this
        cases this
    have hv := aWh_rg hw
    obtain ⟨m7, N8, k8, m8, g1, g2, g3, g4, g5, g6, g7, g8, hP'⟩ := (hP.kp hF hf.2.1).debt hF h410 p0 p1 q0 q1 (fun k => h30.2 (Or.inr k)) hv.1 s6.2.2.2.2.1.2 s6.2.1 k6
    have s8 := s6.kt g7 (by decide) (by decide) (by decide) (by decide) (by omega) g6
    refine ⟨N8, k8, m8, t6, e6, _, hj _ (hrun _ ?_), s8, ⟨by have := hf.1; omega, hf.2.2.tr (fun q hq => Or.inl (g8 q hq))⟩, hL, fun _ => ⟨rfl, hP'⟩, fun h0 => absurd h6 h0⟩
    rw [s6.ov, Option.bind_some, if_pos h6, if_pos rfl, s6.pi, Option.bind_some, g1, Option.bind_some, show isS (some N6) = some () from rfl, Option.bind_some, g2, Option.bind_some, g3, Option.bind_some, g4, bn4_some]
  · refine ⟨N6, k6, m6, t6, e6, _, hj _ (hrun _ ?_), s6, hf.rm (Lo.rfl' _ _), hL, fun h0 => absurd h0 h6, fun _ => hf.2.1⟩
    rw [s6.ov, Option.bind_some, if_neg h6, if_neg (by decide)]
end LND
