/-! PLAIN 67: the reader's steps that look at the pier -/
set_option maxRecDepth 100000
/-- one cell of a kind is written -/
def Up (r ct : Nat) (m m' : fk_M) : Prop := Kt (fun i => i = ct) m m' ∧ (∀ q, m q = none → m' q = none) ∧ ∀ q, q < r → m' q = m q
theorem Up.of {r : Nat} {m : fk_M} {z : Nat} {w0 : Bool} {c0 : fk_C} (ct : Nat) (c : fk_C) (hz : m z = some (w0, c0)) (hct : tg c0 = ct) (h1 : ct ≠ 16) (h2 : ct ≠ 101) (hr : r ≤ z) : Up r ct m (fk_up m z c) := by
  refine ⟨Kt.up1 ct c hz hct h1 h2, fun q hq => (up_ne _ _ (fun e => ?_)).trans hq, fun q hq => up_ne _ _ (by omega)⟩
  rw [e, hz] at hq
  cases hq
theorem Up.lo {r ct : Nat} {m m' : fk_M} (h : Up r ct m m') : Lo r m m' := fun q hq => Or.inl (h.2.2 q hq)
/-- what a line keeps -/
def Rm (r : Nat) (n : Int) (m : fk_M) (N kk : Nat) (t : Tkn) (m' : fk_M) (N' k' : Nat) (t' : Tkn) : Prop := ((N ≤ N' ∧ kk ≤ k' ∧ tkc n t' ≤ tkc n t) ∧ (N' + 5 * tkc n t' ≤ N + 5 * tkc n t + 3 ∧ k' + 36 * tkc n t' ≤ kk + 36 * tkc n t + 33)) ∧ Lo r m m'
def LN (g : Nat → Nat) (r tp : Nat) (T : Int → Int) (n : Int) (m : fk_M) (N kk : Nat) (t : Tkn) (e : Er) (ρ : Except Er Ls) (res : Option (Nat × Nat × fk_M)) : Prop := ∃ N' k' m' t' e' s', res = some (N', k', m') ∧ SS g r tp T n m' N' t' e' ∧ Rm r n m N kk t m' N' k' t' ∧ Lv ρ s' e e' ∧ (e'.1 = 0 → s'.1 = t' ∧ PR g m' r s'.2.1 s'.2.2) ∧ (e'.1 ≠ 0 → Kt kp3 m m')
section SSP
variable {g : Nat → Nat} {r tp : Nat} {T : Int → Int} {n : Int} {m : fk_M} {N : Nat} {t : Tkn} {e : Er} {φ ψ : Int → Int}
theorem SS.kt (h : SS g r tp T n m N t e) {m' : fk_M} {N' : Nat} {K : Nat → Prop} (k : Kt K m m') (h2 : ¬ K 2) (h3 : ¬ K 3) (h5 : ¬ K 5) (h1 : ¬ K 101) (hN : N ≤ N') (hfr : ∀ q, N' ≤ q → m' q = none) : SS g r tp T n m' N' t e := by
  obtain ⟨hT, -, ⟨z, ⟨V, v1, v2⟩, ⟨W, w1, w2⟩, ⟨U, s, u1, u2, u3, u4, u5, u6⟩⟩, ht, hr, ⟨w, L, gv, t1, t2⟩, hc⟩ := h
  exact ⟨hT, hfr, ⟨z, ⟨V, k.o v1 h2, v2⟩, ⟨W, k.o w1 h3, w2⟩, ⟨U, s, k.o u1 h5, u2, u3, u4, u5, k.2 _ _ u6⟩⟩, ht, by omega, ⟨w, L, gv, k.n t1 h1, t2⟩, fun i hi => k.2 _ _ (hc i hi)⟩
theorem SS.up (h : SS g r tp T n m N t e) {m' : fk_M} {ct : Nat} (u : Up r ct m m') (h2 : ct ≠ 2) (h3 : ct ≠ 3) (h5 : ct ≠ 5) (h1 : ct ≠ 101) : SS g r tp T n m' N t e := h.kt u.1 (fun h => h2 h.symm) (fun h => h3 h.symm) (fun h => h5 h.symm) (fun h => h1 h.symm) (Nat.le_refl N) (fun q hq => u.2.1 q (h.2.1 q hq))
theorem o_known (h : SS g r tp T n m N t e) (kk : Nat) (hP : PR g m r φ ψ) (hF : FI φ ψ) : ∃ m' e' v, f_X3_known g (some r) m = some (ii v, m') ∧ SS g r tp T n m' N t e' ∧ Fs r n m N kk t m' N kk t ∧ Lv (aKn φ t) (v, t) e e' := by
  obtain ⟨z, m1, z1, z2, z3, s1, f1⟩ := o_isName h kk
  have hP1 := hP.kp hF f1.2.1
  obtain ⟨e4, q, hN⟩ := hP1.pn
  unfold f_X3_known
  rw [z1, Option.bind_some, z2, Option.bind_some, z3, bn2_some]
  by_cases hn : isNm t
  · obtain ⟨e', he'⟩ : ∃ e', e' = if 0 ≤ fnd φ t.2.2.2.2 then e else er1 e 2 t.2.1 := ⟨_, rfl⟩
    obtain ⟨m2, b1, b2, b3⟩ := k_known15 g s1.2.2.1 s1.ok hF hN he'
    obtain ⟨s2, f2⟩ := s1.re kk b3 b2
    rw [if_pos hn, if_neg (show ¬ (1 : Int32) = 0 by decide), b1]
    refine ⟨m2, e', if e'.1 = 0 then fnd φ t.2.2.2.2 else 0, by split <;> rfl, s2, f1.tr f2, ?_⟩
    unfold aKn
    rw [if_pos hn]
    by_cases h0 : 0 ≤ fnd φ t.2.2.2.2
    · rw [if_pos h0] at he'
      subst he'
      rw [if_pos h0]
      exact (Lv.ok (fnd φ t.2.2.2.2, t) e').cg (fun h => ⟨rfl, by rw [if_pos h]⟩)
    · rw [if_neg h0] at he'
      subst he'
      rw [if_neg h0]
      exact Lv.err _ e (by omega)
  · obtain ⟨m2, w1, s2, f2⟩ := o_wrong s1 kk (k := 1) (by omega)
    have hP2 := hP1.kp hF f2.2.1
    obtain ⟨e4', q', hN2⟩ := hP2.pn
    obtain ⟨m3, b1, b2, b3⟩ := k_known15 g s2.2.2.1 s2.ok hF hN2 (e' := er1 e 1 t.2.1) (by rw [er1_er1 (by omega)]; split <;> rfl)
    obtain ⟨s3, f3⟩ := s2.re kk b3 b2
    rw [if_neg hn, if_pos (show (0 : Int32) = 0 from rfl), s1.o, Option.bind_some, show (1 : Int32) = ii 1 from rfl, w1, Option.bind_some, b1]
    refine ⟨m3, er1 e 1 t.2.1, if (er1 e 1 t.2.1).1 = 0 then fnd φ t.2.2.2.2 else 0, by split <;> rfl, s3, (f1.tr f2).tr f3, ?_⟩
    unfold aKn
    rw [if_neg hn]
    exact Lv.err _ e (by omega)
theorem o_told (h : SS g r tp T n m N t e) (kk : Nat) (hP : PR g m r φ ψ) (hF : FI φ ψ) : ∃ N' k' m' t' e' v, f_X3_told g (some r) N kk m = some (ii v, N', k', m') ∧ SS g r tp T n m' N' t' e' ∧ Fs r n m N kk t m' N' k' t' ∧ Lv (aKn φ t) (v, t) e e' ∧ (e'.1 = 0 → t' = aOn T n t) := by
  obtain ⟨m1, e1, v, a1, a2, a3, a4⟩ := o_known h kk hP hF
  obtain ⟨N2, k2, m2, t2, b1, b2, b3, b4⟩ := o_on a2 kk
  refine ⟨N2, k2, m2, t2, e1, v, ?_, b2, a3.tr b3, a4, b4⟩
  unfold f_X3_told
  rw [h.o, Option.bind_some, a1, bn2_some, a2.o, Option.bind_some, b1, bn3_some]
/-- a check that is made always -/
theorem o_chk (h : SS g r tp T n m N t e) (kk : Nat) (c : Prop) [Decidable c] {k : Int} (hk : 1 ≤ k ∧ k ≤ 6) : ∃ m1 e1, (c → m1 = m) ∧ (¬ c → f_X3_wrong (some r) (ii k) m = some m1) ∧ SS g r tp T n m1 N t e1 ∧ Fs r n m N kk t m1 N kk t ∧ e1 = (if e.1 = 0 ∧ ¬ c then er1 e k t.2.1 else e) := by
  by_cases hc : c
  · exact ⟨m, e, fun _ => rfl, fun h => absurd hc h, h, Fs.rfl' .., by rw [if_neg (fun hh => hh.2 hc)]⟩
  · obtain ⟨m1, a, b, d⟩ := o_wrong h kk hk
    refine ⟨m1, _, fun h => absurd h hc, fun _ => a, b, d, ?_⟩
    by_cases h0 : e.1 = 0
    · rw [if_pos ⟨h0, hc⟩]
    · rw [if_neg (fun hh => h0 hh.1), er1_d h0]
/-- a check that is made while nothing has failed -/
theorem o_chk2 (h : SS g r tp T n m N t e) (kk : Nat) (c : Prop) [Decidable c] {k : Int} (hk : 1 ≤ k ∧ k ≤ 6) : ∃ m1 e1, (e.1 ≠ 0 ∨ c → m1 = m) ∧ (e.1 = 0 → ¬ c → f_X3_wrong (some r) (ii k) m = some m1) ∧ SS g r tp T n m1 N t e1 ∧ Fs r n m N kk t m1 N kk t ∧ e1 = (if e.1 = 0 ∧ ¬ c then er1 e k t.2.1 else e) := by
  by_cases hc : e.1 = 0 ∧ ¬ c
  · obtain ⟨m1, a, b, d⟩ := o_wrong h kk hk
    exact ⟨m1, _, fun h => h.elim (fun h => absurd hc.1 h) (fun h => absurd h hc.2), fun _ _ => a, b, d, by rw [if_pos hc]⟩
  · exact ⟨m, e, fun _ => rfl, fun h1 h2 => absurd ⟨h1, h2⟩ hc, h, Fs.rfl' .., by rw [if_neg hc]⟩
theorem o_begins (h : SS g r tp T n m N t e) (kk : Nat) (hP : PR g m r φ ψ) (hF : FI φ ψ) {a b : Int32} (c : Prop) [Decidable c] (hc : c ↔ a ≠ b) : ∃ N' k' m' t' e', f_X3_begins g (some r) a b N kk m = some (N', k', m') ∧ SS g r tp T n m' N' t' e' ∧ Fs r n m N kk t m' N' k' t' ∧ Lv (aBeg T n c (t, φ, ψ)) (t', φ, ψ) e e' := by
  obtain ⟨m1, e1, a1, a2, s1, f1, h1⟩ := o_chk h kk c (k := 5) (by omega)
  obtain ⟨m2, e2, b1, b2, s2, f2, h2⟩ := o_chk s1 kk (¬ φ 7 = 0) (k := 6) (by omega)
  obtain ⟨N3, k3, m3, t3, d1, s3, f3, d4⟩ := o_on s2 kk
  refine ⟨N3, k3, m3, t3, e2, ?_, s3, (f1.tr f2).tr f3, ?_⟩
  · have j27 : f_X3_begins_J27 g (some r) N kk m2 = some (N3, k3, m3) := by
      unfold f_X3_begins_J27
      rw [s2.o, Option.bind_some, d1, bn3_some]
    have j10 : f_X3_begins_J10 g (some r) N kk m1 = some (N3, k3, m3) := by
      obtain ⟨V, v1, v2, -⟩ := (hP.kp hF f1.2.1).pq
      unfold f_X3_begins_J10
      rw [s1.pi, Option.bind_some, gI_of v1 v2, Option.bind_some]
      by_cases h7 : φ 7 = 0
      · rw [if_pos h7, if_pos (show ii (-1) = -1 from rfl), s1.o, Option.bind_some, show (6 : Int32) = ii 6 from rfl, b2 (fun hh => hh h7), Option.bind_some, j27]
      · have hw : 2 ≤ φ 0 ∧ φ 0 ≤ 99 := by
          rcases hF.2.2.1 with hh | hh
          · exact absurd hh.1 h7
          · exact hh.2.1
        have hm := b1 h7
        rw [hm] at j27
        rw [if_neg h7, if_neg (show ¬ ii (φ 0) = -1 by rw [show (-1 : Int32) = ii (-1) from rfl, ii_eq (by omega) (by omega)]; omega), j27]
    unfold f_X3_begins
    by_cases hab : a = b
    · rw [if_pos hab, h.o, Option.bind_some, show (5 : Int32) = ii 5 from rfl, a2 (fun hh => (hc.mp hh) hab), Option.bind_some, j10]
    · have hm := a1 (hc.mpr hab)
      rw [hm] at j10
      rw [if_neg hab, j10]
  · unfold aBeg
    refine Lv.ite (k := 5) (p := t.2.1) (by omega) h1 ?_
    show Lv (if φ 7 = 0 then (.error (6, t.2.1) : Except Er Ls) else .ok (aOn T n t, φ, ψ)) (t3, φ, ψ) e1 e2
    by_cases h7 : φ 7 = 0
    · have : e2 = er1 e1 6 t.2.1 := by
        rw [h2]
        by_cases h0 : e1.1 = 0
        · rw [if_pos ⟨h0, fun hh => hh h7⟩]
        · rw [if_neg (fun hh => h0 hh.1), er1_d h0]
      rw [if_pos h7, this]
      exact Lv.err _ e1 (by omega)
    · have : e2 = e1 := by rw [h2, if_neg (fun hh => hh.2 h7)]
      rw [if_neg h7]
      rw [this] at d4 ⊢
      exact (Lv.ok _ e1).cg (fun h0 => ⟨by rw [d4 h0], rfl⟩)
/-- a pair, as it is looked at -/
theorem PR.at (h : PR g m r φ ψ) {p : Int} (p0 : 0 ≤ p) (p1 : p < φ 2) : ∃ qv W, gR m (some (r + 2)) 4 4 = some (some (r + 3)) ∧ isO m (some (r + 3)) 14 = some () ∧ f_J2_get (some (r + 3)) (ii p) m = some (some qv) ∧ m qv = some (true, oB 6 W) ∧ W 4 = tI (ii (φ (13 + p))) ∧ W 6 = tI (if isU φ p then 1 else 0) := by
  obtain ⟨q, lw, hk, dk, du, dv, e4, e5, e6, g4, g5, g6, a0, ⟨V, v1, v2, v3, v4, v5, v6, -⟩, ⟨a2, -⟩, a5, a6, a7, -⟩ := h
  obtain ⟨c1, ⟨-, W, s, wd, w1, w2, w3, w4, w5, w6, w7, w8, w9, -⟩, -⟩ := a7 p p0 p1
  exact ⟨q p, W, gR_of v1 v6, a2.sz.1, by rw [a2.get p0 p1, c1], w1, w8, w9⟩
theorem kn_lt {t' : Tkn} (hF : FI φ ψ) {v : Int} (h : aKn φ t = .ok (v, t')) : v = fnd φ t.2.2.2.2 ∧ 0 ≤ v ∧ v < φ 2 := by
  unfold aKn at h
  split at h
  · split at h
    · rename_i h0
      cases h
      exact ⟨rfl, h0, (fnd_lt hF h0).1⟩
    · cases h
  · cases h
end SSP
