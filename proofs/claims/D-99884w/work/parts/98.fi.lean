/-! PLAIN 43: what is told is kept by every line -/
set_option maxRecDepth 100000
theorem nmS_e (φ : Int → Int) (p : Int) (w : List Int) : nmS φ p w (50 + p) = (w.length : Int) := by
  unfold nmS
  rw [if_pos rfl]
theorem nmS_s (φ : Int → Int) {p q : Int} (w : List Int) (p0 : 0 ≤ p) (q1 : q < 5) (h : q ≠ p) : nmS φ p w (50 + q) = φ (50 + q) := by
  unfold nmS
  rw [if_neg (by omega), if_neg (by omega)]
theorem FI.pier {φ ψ : Int → Int} (h : FI φ ψ) (h7 : φ 7 ≤ 0) {w d : Int} (hw : 2 ≤ w ∧ w ≤ 99) (hd : 0 ≤ d ∧ d ≤ 100) : FI (su1 (su1 (su1 φ 0 w) 1 d) 7 1) ψ := by
  obtain ⟨h1, h2, h3, h4, h5, h6, h7', h8, h9, h10, h11, h12, h13, h14, h15⟩ := h
  refine ⟨((h1.su (by omega) (by omega)).su (by omega) (by omega)).su (by omega) (by omega), h2, Or.inr ?_, ?_, ?_, ?_, ?_, ?_, fun p p0 p1 => ?_, fun p p0 p1 => ?_, fun p q p0 p1 q0 q1 => ?_, fun k k0 k1 => ?_, fun k j k0 k1 => ?_, fun k k0 k1 => ?_, h15⟩
  · refine ⟨su1_e .., ?_, ?_, ?_⟩
    · simp (disch := omega) only [su1_n, su1_e]
      exact hw
    · simp (disch := omega) only [su1_n, su1_e]
      exact hd.1
    · simp (disch := omega) only [su1_n, su1_e]
      exact hd.2
  · simp (disch := omega) only [su1_n, su1_e]
    exact h4
  · rw [ct_cg (φ := φ) (fun p p0 p1 => by simp (disch := omega) only [su1_n])]
    simp (disch := omega) only [su1_n, su1_e]
    exact h5
  · simp (disch := omega) only [su1_n, su1_e]
    exact h6
  · simp (disch := omega) only [su1_n, su1_e]
    exact h7'
  · simp (disch := omega) only [su1_n, su1_e]
    exact h8
  · simp (disch := omega) only [su1_n, su1_e] at p1
    omega
  · simp (disch := omega) only [su1_n, su1_e] at p0
    have h10' := h10 p p0 p1
    simp (disch := omega) only [su1_n, su1_e]
    exact h10'
  · simp (disch := omega) only [su1_n, su1_e]
    exact h11 p q p0 p1 q0 q1
  · simp (disch := omega) only [su1_n, su1_e] at k1
    omega
  · simp (disch := omega) only [su1_n, su1_e] at k1
    omega
  · simp (disch := omega) only [su1_n, su1_e] at k1
    omega
theorem FI.pair {φ ψ : Int → Int} (h : FI φ ψ) (h7 : φ 7 ≠ 0) (h2' : φ 2 < 5) {w : List Int} (hw : Lt w) (hw1 : 1 ≤ w.length) {lw v d : Int} (hl : 0 ≤ lw ∧ lw ≤ 3) (hv : 0 ≤ v ∧ v ≤ φ 0) (hd : 0 ≤ d ∧ d ≤ 20) : FI (su1 (su1 (nmS φ (φ 2) w) (8 + φ 2) lw) 2 (φ 2 + 1)) (su1 (su1 ψ (φ 2) v) (5 + φ 2) d) := by
  obtain ⟨h1, h2, h3, h4, h5, h6, h7', h8, h9, h10, h11, h12, h13, h14, h15⟩ := h
  have hw8 := hw.1
  refine ⟨((h1.nm hw).su (by omega) (by omega)).su (by omega) (by omega), fun t t0 t1 => ?_, Or.inr ?_, ?_, ?_, ?_, ?_, ?_, fun p p0 p1 => ?_, fun p p0 p1 => ?_, fun p q p0 p1 q0 q1 => ?_, fun k k0 k1 => ?_, fun k j k0 k1 j0 j1 => ?_, fun k k0 k1 => ?_, ?_⟩
  · have := h2 t t0 t1
    unfold su1
    (repeat' split) <;> omega
  · simp (disch := omega) only [su1_n, su1_e, nmS_lo]
    omega
  · simp (disch := omega) only [su1_n, su1_e, nmS_lo]
    omega
  · rw [ct_cg (φ := φ) (fun p p0 p1 => by simp (disch := omega) only [su1_n, nmS_lo])]
    simp (disch := omega) only [su1_n, su1_e, nmS_lo]
    exact h5
  · simp (disch := omega) only [su1_n, su1_e, nmS_lo]
    exact h6
  · simp (disch := omega) only [su1_n, su1_e, nmS_lo]
    exact h7'
  · simp (disch := omega) only [su1_n, su1_e, nmS_lo]
    exact h8
  · simp (disch := omega) only [su1_n, su1_e, nmS_lo] at p1
    by_cases hp : p = φ 2
    · have h10' := h10 p (by omega) (by omega)
      subst hp
      simp (disch := omega) only [su1_n, su1_e, nmS_lo, nmS_e]
      omega
    · have h9' := h9 p p0 (by omega)
      simp (disch := omega) only [su1_n, su1_e, nmS_lo, nmS_s]
      exact h9'
  · simp (disch := omega) only [su1_n, su1_e, nmS_lo] at p0
    have h10' := h10 p (by omega) p1
    simp (disch := omega) only [su1_n, su1_e, nmS_lo, nmS_s]
    exact h10'
  · have h11' := h11 p q p0 p1 q0 q1
    simp (disch := omega) only [su1_n, su1_e, nmS_lo]
    exact ⟨h11'.1, h11'.2.1, fun h => h11'.2.2 (by omega)⟩
  · simp (disch := omega) only [su1_n, su1_e, nmS_lo] at k1
    have := h12 k k0 k1
    simp (disch := omega) only [su1_n, su1_e, nmS_lo]
    omega
  · simp (disch := omega) only [su1_n, su1_e, nmS_lo] at k1 j1
    simp (disch := omega) only [su1_n, su1_e, nmS_lo]
    exact h13 k j k0 k1 j0 j1
  · simp (disch := omega) only [su1_n, su1_e, nmS_lo] at k1
    have := h14 k k0 k1
    simp (disch := omega) only [su1_n, su1_e, nmS_lo]
    omega
  · simp (disch := omega) only [su1_n, su1_e, nmS_lo]
    exact h15
theorem FI.con {φ ψ : Int → Int} (h : FI φ ψ) {p v : Int} (p0 : 0 ≤ p) (p1 : p < φ 2) (hp : φ (13 + p) ≤ 0) (hv : 1 ≤ v ∧ v ≤ 9) : FI (su1 (su1 φ (13 + p) v) 3 (φ 3 + 1)) ψ := by
  obtain ⟨h1, h2, h3, h4, h5, h6, h7', h8, h9, h10, h11, h12, h13, h14, h15⟩ := h
  have hc := ct_rg φ
  refine ⟨(h1.su (by omega) (by omega)).su (by omega) (by omega), h2, ?_, ?_, ?_, ?_, ?_, ?_, fun q q0 q1 => ?_, fun q q0 q1 => ?_, fun s q s0 s1 q0 q1 => ?_, fun k k0 k1 => ?_, fun k j k0 k1 j0 j1 => ?_, fun k k0 k1 => ?_, h15⟩
  · simp (disch := omega) only [su1_n, su1_e]
    exact h3
  · simp (disch := omega) only [su1_n, su1_e]
    exact h4
  · rw [ct_cg (φ := su1 φ (13 + p) v) (fun q q0 q1 => by rw [su1_n _ _ (by omega)]), su1_e, ct_su p0 (by omega) hp hv.1]
    omega
  · simp (disch := omega) only [su1_n, su1_e]
    exact h6
  · simp (disch := omega) only [su1_n, su1_e]
    exact h7'
  · simp (disch := omega) only [su1_n, su1_e]
    exact h8
  · simp (disch := omega) only [su1_n, su1_e] at q1
    have h9' := h9 q q0 q1
    by_cases hq : q = p
    · subst hq
      simp (disch := omega) only [su1_n, su1_e]
      omega
    · simp (disch := omega) only [su1_n, su1_e]
      exact h9'
  · simp (disch := omega) only [su1_n, su1_e] at q0
    simp (disch := omega) only [su1_n, su1_e]
    exact h10 q q0 q1
  · simp (disch := omega) only [su1_n, su1_e]
    exact h11 s q s0 s1 q0 q1
  · simp (disch := omega) only [su1_n, su1_e] at k1
    simp (disch := omega) only [su1_n, su1_e]
    exact h12 k k0 k1
  · simp (disch := omega) only [su1_n, su1_e] at k1 j1
    simp (disch := omega) only [su1_n, su1_e]
    exact h13 k j k0 k1 j0 j1
  · simp (disch := omega) only [su1_n, su1_e] at k1
    simp (disch := omega) only [su1_n, su1_e]
    exact h14 k k0 k1
theorem FI.debt {φ ψ : Int → Int} (h : FI φ ψ) (h4' : φ 4 < 10) {p q v : Int} (p0 : 0 ≤ p) (p1 : p < φ 2) (q0 : 0 ≤ q) (q1 : q < φ 2) (hpq : p ≠ q) (hv : 1 ≤ v ∧ v ≤ 99) : FI (su1 φ 4 (φ 4 + 1)) (su1 ψ (10 + 5 * p + q) v) := by
  obtain ⟨h1, h2, h3, h4, h5, h6, h7', h8, h9, h10, h11, h12, h13, h14, h15⟩ := h
  refine ⟨h1.su (by omega) (by omega), fun t t0 t1 => ?_, ?_, ?_, ?_, ?_, ?_, ?_, fun s s0 s1 => ?_, fun s s0 s1 => ?_, fun s r s0 s1 r0 r1 => ?_, fun k k0 k1 => ?_, fun k j k0 k1 j0 j1 => ?_, fun k k0 k1 => ?_, ?_⟩
  · have := h2 t t0 t1
    unfold su1
    split <;> omega
  · simp (disch := omega) only [su1_n, su1_e]
    omega
  · simp (disch := omega) only [su1_n, su1_e]
    exact h4
  · rw [ct_cg (φ := φ) (fun p p0 p1 => by simp (disch := omega) only [su1_n])]
    simp (disch := omega) only [su1_n, su1_e]
    exact h5
  · simp (disch := omega) only [su1_n, su1_e]
    omega
  · simp (disch := omega) only [su1_n, su1_e]
    exact h7'
  · simp (disch := omega) only [su1_n, su1_e]
    exact h8
  · simp (disch := omega) only [su1_n, su1_e] at s1
    simp (disch := omega) only [su1_n, su1_e]
    exact h9 s s0 s1
  · simp (disch := omega) only [su1_n, su1_e] at s0
    simp (disch := omega) only [su1_n, su1_e]
    exact h10 s s0 s1
  · have h11' := h11 s r s0 s1 r0 r1
    simp (disch := omega) only [su1_n φ]
    by_cases hs : 10 + 5 * s + r = 10 + 5 * p + q
    · rw [hs, su1_e]
      have : s = p ∧ r = q := by omega
      omega
    · rw [su1_n _ _ hs]
      exact h11'
  · simp (disch := omega) only [su1_n, su1_e] at k1
    simp (disch := omega) only [su1_n, su1_e]
    exact h12 k k0 k1
  · simp (disch := omega) only [su1_n, su1_e] at k1 j1
    simp (disch := omega) only [su1_n, su1_e]
    exact h13 k j k0 k1 j0 j1
  · simp (disch := omega) only [su1_n, su1_e] at k1
    simp (disch := omega) only [su1_n, su1_e]
    exact h14 k k0 k1
  · rw [su1_n _ _ (by omega)]
    exact h15
theorem FI.uns {φ ψ : Int → Int} (h : FI φ ψ) (h5' : φ 5 < 4) {p v : Int} (p0 : 0 ≤ p) (p1 : p < φ 2) (hU : ¬ isU φ p) (hv : 0 ≤ v ∧ v ≤ 20) : FI (su1 (su1 (su1 φ (18 + 2 * φ 5) p) (18 + 2 * φ 5 + 1) v) 5 (φ 5 + 1)) ψ := by
  obtain ⟨h1, h2, h3, h4, h5, h6, h7', h8, h9, h10, h11, h12, h13, h14, h15⟩ := h
  have hno : ∀ k, 0 ≤ k → k < φ 5 → φ (18 + 2 * k) ≠ p := fun k k0 k1 e => hU ⟨⟨k.toNat, by omega⟩, by show ((k.toNat : Nat) : Int) < φ 5; omega, by show φ (18 + 2 * ((k.toNat : Nat) : Int)) = p; rw [Int.toNat_of_nonneg k0]; exact e⟩
  refine ⟨((h1.su (by omega) (by omega)).su (by omega) (by omega)).su (by omega) (by omega), h2, ?_, ?_, ?_, ?_, ?_, ?_, fun s s0 s1 => ?_, fun s s0 s1 => ?_, fun s r s0 s1 r0 r1 => ?_, fun k k0 k1 => ?_, fun k j k0 k1 j0 j1 hkj => ?_, fun k k0 k1 => ?_, h15⟩
  · simp (disch := omega) only [su1_n, su1_e]
    omega
  · simp (disch := omega) only [su1_n, su1_e]
    exact h4
  · rw [ct_cg (φ := φ) (fun p p0 p1 => by simp (disch := omega) only [su1_n])]
    simp (disch := omega) only [su1_n, su1_e]
    exact h5
  · simp (disch := omega) only [su1_n, su1_e]
    exact h6
  · rw [su1_e]
    omega
  · simp (disch := omega) only [su1_n, su1_e]
    exact h8
  · simp (disch := omega) only [su1_n, su1_e] at s1
    simp (disch := omega) only [su1_n, su1_e]
    exact h9 s s0 s1
  · simp (disch := omega) only [su1_n, su1_e] at s0
    simp (disch := omega) only [su1_n, su1_e]
    exact h10 s s0 s1
  · simp (disch := omega) only [su1_n, su1_e]
    exact h11 s r s0 s1 r0 r1
  · rw [su1_e] at k1
    rw [su1_n _ _ (show (2 : Int) ≠ 5 by omega), su1_n _ _ (show (2 : Int) ≠ 18 + 2 * φ 5 + 1 by omega), su1_n _ _ (show (2 : Int) ≠ 18 + 2 * φ 5 by omega)]
    by_cases hk : k = φ 5
    · subst hk
      rw [su1_n _ _ (show 18 + 2 * φ 5 ≠ 5 by omega), su1_n _ _ (show 18 + 2 * φ 5 ≠ 18 + 2 * φ 5 + 1 by omega), su1_e, su1_n _ _ (show 18 + 2 * φ 5 + 1 ≠ 5 by omega), su1_e]
      omega
    · rw [su1_n _ _ (show 18 + 2 * k ≠ 5 by omega), su1_n _ _ (show 18 + 2 * k ≠ 18 + 2 * φ 5 + 1 by omega), su1_n _ _ (show 18 + 2 * k ≠ 18 + 2 * φ 5 by omega), su1_n _ _ (show 18 + 2 * k + 1 ≠ 5 by omega), su1_n _ _ (show 18 + 2 * k + 1 ≠ 18 + 2 * φ 5 + 1 by omega), su1_n _ _ (show 18 + 2 * k + 1 ≠ 18 + 2 * φ 5 by omega)]
      exact h12 k k0 (by omega)
  · rw [su1_e] at k1 j1
    have ev : ∀ i, 0 ≤ i → i < φ 5 + 1 → su1 (su1 (su1 φ (18 + 2 * φ 5) p) (18 + 2 * φ 5 + 1) v) 5 (φ 5 + 1) (18 + 2 * i) = if i = φ 5 then p else φ (18 + 2 * i) := by
      intro i i0 i1
      rw [su1_n _ _ (show 18 + 2 * i ≠ 5 by omega), su1_n _ _ (show 18 + 2 * i ≠ 18 + 2 * φ 5 + 1 by omega)]
      by_cases hi : i = φ 5
      · rw [if_pos hi, hi, su1_e]
      · rw [if_neg hi, su1_n _ _ (show 18 + 2 * i ≠ 18 + 2 * φ 5 by omega)]
    rw [ev k k0 k1, ev j j0 j1] at hkj
    by_cases hk : k = φ 5
    · by_cases hj : j = φ 5
      · omega
      · rw [if_pos hk, if_neg hj] at hkj
        exact absurd hkj.symm (hno j j0 (by omega))
    · by_cases hj : j = φ 5
      · rw [if_neg hk, if_pos hj] at hkj
        exact absurd hkj (hno k k0 (by omega))
      · rw [if_neg hk, if_neg hj] at hkj
        exact h13 k j k0 (by omega) j0 (by omega) hkj
  · simp (disch := omega) only [su1_n, su1_e] at k1
    simp (disch := omega) only [su1_n, su1_e]
    exact h14 k k0 k1
theorem FI.hrd {φ ψ : Int → Int} (h : FI φ ψ) (h6' : φ 6 < 8) {p m v : Int} (p0 : 0 ≤ p) (p1 : p < φ 2) (hm : 1 ≤ m ∧ m ≤ 30) (hv : 0 ≤ v ∧ v ≤ φ 0) : FI (su1 (su1 (su1 (su1 φ (26 + 3 * φ 6) p) (26 + 3 * φ 6 + 1) m) (26 + 3 * φ 6 + 2) v) 6 (φ 6 + 1)) ψ := by
  obtain ⟨h1, h2, h3, h4, h5, h6, h7', h8, h9, h10, h11, h12, h13, h14, h15⟩ := h
  refine ⟨(((h1.su (by omega) (by omega)).su (by omega) (by omega)).su (by omega) (by omega)).su (by omega) (by omega), h2, ?_, ?_, ?_, ?_, ?_, ?_, fun s s0 s1 => ?_, fun s s0 s1 => ?_, fun s r s0 s1 r0 r1 => ?_, fun k k0 k1 => ?_, fun k j k0 k1 j0 j1 => ?_, fun k k0 k1 => ?_, h15⟩
  · simp (disch := omega) only [su1_n, su1_e]
    omega
  · simp (disch := omega) only [su1_n, su1_e]
    exact h4
  · rw [ct_cg (φ := φ) (fun p p0 p1 => by simp (disch := omega) only [su1_n])]
    simp (disch := omega) only [su1_n, su1_e]
    exact h5
  · simp (disch := omega) only [su1_n, su1_e]
    exact h6
  · simp (disch := omega) only [su1_n, su1_e]
    exact h7'
  · rw [su1_e]
    omega
  · simp (disch := omega) only [su1_n, su1_e] at s1
    simp (disch := omega) only [su1_n, su1_e]
    exact h9 s s0 s1
  · simp (disch := omega) only [su1_n, su1_e] at s0
    simp (disch := omega) only [su1_n, su1_e]
    exact h10 s s0 s1
  · simp (disch := omega) only [su1_n, su1_e]
    exact h11 s r s0 s1 r0 r1
  · simp (disch := omega) only [su1_n, su1_e] at k1
    simp (disch := omega) only [su1_n, su1_e]
    exact h12 k k0 k1
  · simp (disch := omega) only [su1_n, su1_e] at k1 j1
    simp (disch := omega) only [su1_n, su1_e]
    exact h13 k j k0 k1 j0 j1
  · rw [su1_e] at k1
    by_cases hk : k = φ 6
    · subst hk
      simp (disch := omega) only [su1_n, su1_e]
      omega
    · have := h14 k k0 (by omega)
      simp (disch := omega) only [su1_n, su1_e]
      exact this
theorem aLine_ok {T : Int → Int} {n : Int} (hT : Tx8 T n) {s s' : Ls} (h : Tok8 n s.1) (hF : FI s.2.1 s.2.2) (he : aLine T n s = .ok s') : Go n s.1 s'.1 ∧ s.1.1 = 2 ∧ FI s'.2.1 s'.2.2 := by
  unfold aLine at he
  split at he
  · rename_i hw
    obtain ⟨g, h7, w, d, d1, d2, e1, e2⟩ := aPier_ok hT h he
    refine ⟨g, hw.1, ?_⟩
    rw [e1, e2]
    exact hF.pier h7 d1 d2
  split at he
  · rename_i hw
    obtain ⟨s1, hb, he1⟩ := ex_bind he
    obtain ⟨g0, hc, h7, hs, hs1⟩ := aBeg_ok hT h hb
    obtain ⟨g, n1, n2, lw, v, d, d1, d2, d3, e1, e2⟩ := aPair_ok hT g0.2 he1
    refine ⟨g0.tr g, hw.1, ?_⟩
    rw [hs] at e1 e2 d2
    rw [e1, e2]
    exact hF.pair h7 hc g0.2.2.2.2.2.1 (g0.2.2.2.2.2.2.1 n1.1) d1 d2 d3
  split at he
  · rename_i hw
    obtain ⟨s1, hb, he1⟩ := ex_bind he
    obtain ⟨g0, hc, h7, hs, hs1⟩ := aBeg_ok hT h hb
    obtain ⟨g, p, v, d1, d0, d2, d3, e1, e2⟩ := aCon_ok hT g0.2 he1
    refine ⟨g0.tr g, hw.1, ?_⟩
    rw [hs] at e1 e2 d2 d0
    rw [e1, e2]
    exact hF.con d1.1 (by rw [d0]; exact (fnd_lt hF (by rw [← d0]; exact d1.1)).1) d2 d3
  split at he
  · rename_i hw
    obtain ⟨s1, hb, he1⟩ := ex_bind he
    obtain ⟨g0, hc, h7, hs, hs1⟩ := aBeg_ok hT h hb
    obtain ⟨g, p, q, v, w, d1, d2, d3, d4, d5, d6, d7, e1, e2⟩ := aDebt_ok hT g0.2 he1
    refine ⟨g0.tr g, hw.1, ?_⟩
    rw [hs] at e1 e2 d3 d4 d6
    rw [e1, e2]
    exact hF.debt hc d1.1 (by rw [d3]; exact (fnd_lt hF (by rw [← d3]; exact d1.1)).1) d2.1 (by rw [d4]; exact (fnd_lt hF (by rw [← d4]; exact d2.1)).1) d5 d7
  split at he
  · rename_i hw
    obtain ⟨s1, hb, he1⟩ := ex_bind he
    obtain ⟨g0, hc, h7, hs, hs1⟩ := aBeg_ok hT h hb
    obtain ⟨g, p, v, d1, d2, d3, d4, e1, e2⟩ := aUns_ok hT g0.2 he1
    refine ⟨g0.tr g, hw.1, ?_⟩
    rw [hs] at e1 e2 d2 d3
    rw [e1, e2]
    exact hF.uns hc d1.1 (by rw [d2]; exact (fnd_lt hF (by rw [← d2]; exact d1.1)).1) d3 d4
  split at he
  · rename_i hw
    obtain ⟨s1, hb, he1⟩ := ex_bind he
    obtain ⟨g0, hc, h7, hs, hs1⟩ := aBeg_ok hT h hb
    obtain ⟨g, p, m, v, d1, d2, d3, d4, d5, e1, e2⟩ := aHrd_ok hT g0.2 he1
    refine ⟨g0.tr g, hw.1, ?_⟩
    rw [hs] at e1 e2 d2 d5
    rw [e1, e2]
    exact hF.hrd hc d1.1 (by rw [d2]; exact (fnd_lt hF (by rw [← d2]; exact d1.1)).1) d3 d5
  · cases he
