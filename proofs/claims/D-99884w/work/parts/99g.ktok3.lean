/-! PLAIN 50: the component's tokens: numbers -/
set_option maxRecDepth 100000
theorem k_num {m0 : fk_M} {o tp N : Nat} {T : Int → Int} {n : Int} (hT : Tx8 T n) (g : Nat → Nat) (hfr : ∀ q, N ≤ q → m0 q = none) (ho : ∃ V, m0 o = some (true, oB 3 V)) (htp : tp ≠ o) (h0 : StC m0 (g 0) []) (hA : TA m0 tp T n) {p : Int} (p0 : 0 ≤ p) (kk : Nat) : ∀ (d M : Nat) (k : Int) (m : fk_M), p ≤ k → k ≤ n → n - k < d → d < M → TC m o tp n k → (∀ q, q ≠ o → m q = m0 q) → (∀ i, p ≤ i → i < k → 48 ≤ ch T n i ∧ ch T n i ≤ 57) → NX o tp n m0 N kk (if 3 < rn T n 48 57 d k - p then 0 else 3, p, rn T n 48 57 d k, nmv T p (min 3 (rn T n 48 57 d k - p).toNat), []) (f_X4_next_L167 g (some o) (ii p) N kk M (ii (nmv T p (min 3 (k - p).toNat))) m) := by
  have hn := hT.1
  have hoN : o ≠ N := fun e => by
    obtain ⟨V, hV⟩ := ho
    rw [e, hfr N (Nat.le_refl N)] at hV
    cases hV
  intro d
  induction d with
  | zero => intro M k m h1 h2 h3; omega
  | succ d ih =>
    intro M k m h1 h2 h3 h4 h5 h6 h7
    obtain ⟨M, rfl⟩ : ∃ M', M = M' + 1 := ⟨M - 1, by omega⟩
    have hA' : TA m tp T n := hA.cg (h6 tp htp)
    have hs := k_look h5 hA' hT (by omega) h2
    have hc := ch_rg hT (p := k) (by omega)
    have hin := k_in m (v := ch T n k) (lo := 48) (hi := 57) (by omega) (by omega) (by omega)
    have er : rn T n 48 57 (d + 1) k = if 48 ≤ ch T n k ∧ ch T n k ≤ 57 then rn T n 48 57 d (k + 1) else k := rfl
    rw [er, f_X4_next_L167, h5.o, Option.bind_some, hs, Option.bind_some, show (48 : Int32) = ii 48 from rfl, show (57 : Int32) = ii 57 from rfl, hin, Option.bind_some]
    by_cases hl : 48 ≤ ch T n k ∧ ch T n k ≤ 57
    · have hk := ch_lt (T := T) (n := n) (p := k) (by omega)
      have ec : ch T n k = T k := by
        unfold ch
        rw [if_pos hk]
      have h7' : ∀ i, p ≤ i → i < k + 1 → 48 ≤ ch T n i ∧ ch T n i ≤ 57 := fun i i1 i2 => by
        by_cases hi : i = k
        · rw [hi]; exact hl
        · exact h7 i i1 (by omega)
      obtain ⟨m1, g1, g2, g3⟩ := h5.put (k + 1)
      have hnext : ∀ v : Int32, f_X4_next_J204 g (f_X4_next_L167 g (some o) (ii p) N kk M) (some o) (ii p) v N kk m = f_X4_next_L167 g (some o) (ii p) N kk M v m1 := fun v => by
        unfold f_X4_next_J204
        rw [h5.at.1, Option.bind_some, show (1 : Int32) = ii 1 from rfl, ii_add, g1, Option.bind_some]
      rw [if_pos hl, if_pos hl, if_neg (show ¬ ii 1 = 0 by decide), h5.at.1, Option.bind_some, ii_sub, hnext]
      have hI := ih M (k + 1) m1 (by omega) (by omega) (by omega) (by omega) g2 (fun q hq => (g3 q hq).trans (h6 q hq)) h7'
      by_cases h8 : k - p < 3
      · have hnr := nmv_rg (T := T) (p := p) (min 3 (k - p).toNat) (by omega) (fun i hi => by
          have := h7 (p + i) (by omega) (by omega)
          unfold ch at this
          rw [if_pos (by omega)] at this
          exact this)
        have em : nmv T p (min 3 (k + 1 - p).toNat) = 10 * nmv T p (min 3 (k - p).toNat) + ch T n k - 48 := by
          rw [show min 3 (k + 1 - p).toNat = min 3 (k - p).toNat + 1 by omega, ec]
          show 10 * nmv T p (min 3 (k - p).toNat) + T (p + ((min 3 (k - p).toNat : Nat) : Int)) - 48 = _
          rw [show p + ((min 3 (k - p).toNat : Nat) : Int) = k by omega]
        rw [em] at hI
        rw [if_neg (show ¬ (3 : Int32) ≤ ii (k - p) by rw [show (3 : Int32) = ii 3 from rfl, ii_le (by omega) (by omega)]; omega), Option.bind_some, Option.bind_some, hnext, show (10 : Int32) = ii 10 from rfl, ii_mul, ii_add, ii_sub]
        exact hI
      · rw [show min 3 (k + 1 - p).toNat = min 3 (k - p).toNat by omega] at hI
        rw [if_pos (show (3 : Int32) ≤ ii (k - p) by rw [show (3 : Int32) = ii 3 from rfl, ii_le (by omega) (by omega)]; omega)]
        exact hI
    · rw [if_neg hl, if_neg hl, if_pos (show ii 0 = 0 from rfl)]
      have hC' : TC (fk_up m N (oB 5 (fk_V0 tyX6))) o tp n k := h5.cg (up_ne _ _ hoN)
      have hz : (if (ii k - ii p) ≤ 3 then (3 : Int32) else 0) = ii (if 3 < k - p then 0 else 3) := by
        rw [ii_sub]
        by_cases h9 : 3 < k - p
        · rw [if_pos h9, if_neg (by rw [show (3 : Int32) = ii 3 from rfl, ii_le (by omega) (by omega)]; omega)]
          rfl
        · rw [if_neg h9, if_pos (by rw [show (3 : Int32) = ii 3 from rfl, ii_le (by omega) (by omega)]; omega)]
          rfl
      obtain ⟨m', g1, g2⟩ := k_tok0 (m := m) (tp := tp) (n := n) g hfr ho h6 h0 (t := (if 3 < k - p then 0 else 3, p, k, nmv T p (min 3 (k - p).toNat), [])) rfl h5 kk (fk_V0 tyX6) hz
      rw [hC'.at.1, Option.bind_some, show isS (some N) = some () from rfl, Option.bind_some, g1, Option.bind_some]
      exact g2
