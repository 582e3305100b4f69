/-! PLAIN 52: the component's tokens: words -/
set_option maxRecDepth 100000
theorem up_id {m : fk_M} {q : Nat} {e : fk_C} (h : m q = some (true, e)) : fk_up m q e = m := by
  funext j
  unfold fk_up
  split
  · rename_i hj
    rw [hj, h]
  · rfl
theorem StC.cg2 {m m' : fk_M} {q : Nat} {w : List Int} (h : StC m q w) (hk : ∀ q', (∃ wr V, m q' = some (wr, oB 16 V)) ∨ (∃ w L g, m q' = some (w, aN 1 L g)) → m' q' = m q') : StC m' q w := by
  obtain ⟨wr, V, v, wv, gv, h1, h2, h3, h4, h5, h6⟩ := h
  exact ⟨wr, V, v, wv, gv, (hk q (Or.inl ⟨wr, V, h1⟩)).trans h1, h2, h3, (hk v (Or.inr ⟨wv, _, gv, h4⟩)).trans h4, h5, h6⟩
theorem k_word {m0 : fk_M} {o tp N : Nat} {T : Int → Int} {n : Int} (hT : Tx8 T n) (g : Nat → Nat) (hfr : ∀ q, N ≤ q → m0 q = none) (ho : ∃ V, m0 o = some (true, oB 3 V)) (htp : tp ≠ o) (hA : TA m0 tp T n) {p : Int} (p0 : 0 ≤ p) (kk : Nat) : ∀ (d M : Nat) (k : Int) (m : fk_M), p ≤ k → k ≤ n → n - k < d → d < M → TC m o tp n k → SB m N (min 8 (k - p).toNat) T p → (∀ q, q ≠ o → q ≠ N → q ≠ N + 1 → m q = m0 q) → NX o tp n m0 N kk (if 8 < rn T n 97 122 d k - p then 0 else 2, p, rn T n 97 122 d k, 0, wdl T p (min 8 (rn T n 97 122 d k - p).toNat)) (f_X4_next_L73 g (some o) (ii p) (some N) (N + 2) (kk + 20) M m) := by
  have hn := hT.1
  obtain ⟨Vo, ho⟩ := ho
  have hoN : o < N := by
    by_cases hc : N ≤ o
    · rw [hfr o hc] at ho; cases ho
    · omega
  have htN : tp < N := by
    obtain ⟨w, L, gv, h1, -⟩ := hA
    by_cases hc : N ≤ tp
    · rw [hfr tp hc] at h1; cases h1
    · omega
  intro d
  induction d with
  | zero => intro M k m h1 h2 h3; omega
  | succ d ih =>
    intro M k m h1 h2 h3 h4 h5 hS h6
    obtain ⟨M, rfl⟩ : ∃ M', M = M' + 1 := ⟨M - 1, by omega⟩
    have hA' : TA m tp T n := hA.cg (h6 tp htp (by omega) (by omega))
    have hs := k_look h5 hA' hT (by omega) h2
    have hc := ch_rg hT (p := k) (by omega)
    have hin := k_in m (v := ch T n k) (lo := 97) (hi := 122) (by omega) (by omega) (by omega)
    have er : rn T n 97 122 (d + 1) k = if 97 ≤ ch T n k ∧ ch T n k ≤ 122 then rn T n 97 122 d (k + 1) else k := rfl
    rw [er, f_X4_next_L73, h5.o, Option.bind_some, hs, Option.bind_some, show (97 : Int32) = ii 97 from rfl, show (122 : Int32) = ii 122 from rfl, hin, Option.bind_some]
    by_cases hl : 97 ≤ ch T n k ∧ ch T n k ≤ 122
    · have hk := ch_lt (T := T) (n := n) (p := k) (by omega)
      have ec : ch T n k = T k := by
        unfold ch
        rw [if_pos hk]
      rw [if_pos hl, if_pos hl, if_neg (show ¬ ii 1 = 0 by decide), h5.at.1, Option.bind_some, ii_sub]
      by_cases h8 : k - p < 8
      · obtain ⟨m1, a1, a2, a3⟩ := k_app hS (c := ch T n k) (by omega) (by rw [ec, show p + ((min 8 (k - p).toNat : Nat) : Int) = k by omega]) hl
        have hC1 : TC m1 o tp n k := h5.cg (a3 o (by omega) (by omega))
        obtain ⟨m2, g1, g2, g3⟩ := hC1.put (k + 1)
        have hS2 : SB m2 N (min 8 (k + 1 - p).toNat) T p := by
          rw [show min 8 (k + 1 - p).toNat = min 8 (k - p).toNat + 1 by omega]
          exact a2.cg (g3 N (by omega)) (g3 (N + 1) (by omega))
        have hI := ih M (k + 1) m2 (by omega) (by omega) (by omega) (by omega) g2 hS2 (fun q q1 q2 q3 => (g3 q q1).trans ((a3 q q2 q3).trans (h6 q q1 q2 q3)))
        rw [if_neg (show ¬ (8 : Int32) ≤ ii (k - p) by rw [show (8 : Int32) = ii 8 from rfl, ii_le (by omega) (by omega)]; omega), Option.bind_some, Option.bind_some, hS.o, Option.bind_some, a1, bn2_some]
        unfold f_X4_next_J108
        rw [hC1.at.1, Option.bind_some, show (1 : Int32) = ii 1 from rfl, ii_add, g1, Option.bind_some]
        exact hI
      · obtain ⟨m2, g1, g2, g3⟩ := h5.put (k + 1)
        have hS2 : SB m2 N (min 8 (k + 1 - p).toNat) T p := by
          rw [show min 8 (k + 1 - p).toNat = min 8 (k - p).toNat by omega]
          exact hS.cg (g3 N (by omega)) (g3 (N + 1) (by omega))
        have hI := ih M (k + 1) m2 (by omega) (by omega) (by omega) (by omega) g2 hS2 (fun q q1 q2 q3 => (g3 q q1).trans (h6 q q1 q2 q3))
        rw [if_pos (show (8 : Int32) ≤ ii (k - p) by rw [show (8 : Int32) = ii 8 from rfl, ii_le (by omega) (by omega)]; omega)]
        unfold f_X4_next_J108
        rw [h5.at.1, Option.bind_some, show (1 : Int32) = ii 1 from rfl, ii_add, g1, Option.bind_some]
        exact hI
    · rw [if_neg hl, if_neg hl, if_pos (show ii 0 = 0 from rfl)]
      obtain ⟨h1', hh1⟩ : ∃ h1', h1' = fk_up m (N + 2) (oB 5 (fk_V0 tyX6)) := ⟨_, rfl⟩
      have u1' : ∀ q, q ≠ N + 2 → h1' q = m q := fun q hq => by rw [hh1]; exact up_ne _ _ hq
      have hC' : TC h1' o tp n k := h5.cg (u1' o (by omega))
      have hS' : SB h1' N (min 8 (k - p).toNat) T p := hS.cg (u1' N (by omega)) (u1' (N + 1) (by omega))
      obtain ⟨m8, s1, s2, s3⟩ := k_str hS' (S := N + 3) (by omega) (by omega) (kk + 20 + 4)
      have hm8 : m8 (N + 2) = some (true, oB 5 (fk_V0 tyX6)) := by
        rw [s3 (N + 2) (by omega) (by omega), hh1]
        exact up_eq ..
      obtain ⟨V', g1, g2, g3, g4, g5⟩ := k_tok m8 (N + 2) (fk_V0 tyX6) (if (ii k - ii p) ≤ 8 then (2 : Int32) else 0) (ii p) (ii 0) (some (N + 3))
      rw [up_id hm8, show ii 0 = (0 : Int32) from rfl] at g1
      have hz : (if (ii k - ii p) ≤ 8 then (2 : Int32) else 0) = ii (if 8 < k - p then 0 else 2) := by
        rw [ii_sub]
        by_cases h9 : 8 < k - p
        · rw [if_pos h9, if_neg (by rw [show (8 : Int32) = ii 8 from rfl, ii_le (by omega) (by omega)]; omega)]
          rfl
        · rw [if_neg h9, if_pos (by rw [show (8 : Int32) = ii 8 from rfl, ii_le (by omega) (by omega)]; omega)]
          rfl
      have hk' : ∀ q, q < N → q ≠ o → fk_up m8 (N + 2) (oB 5 V') q = m0 q := fun q q1 q2 => by
        rw [up_ne _ _ (by omega), s3 q (by omega) (by omega), u1' q (by omega)]
        exact h6 q q2 (by omega) (by omega)
      refine ⟨N + 2, N + 3 + 2, kk + 20 + 4 + 4 + min 8 (k - p).toNat, fk_up m8 (N + 2) (oB 5 V'), ?_, hC'.cg ?_, ⟨V', N + 3, up_eq .., ?_, g3, g4, g5, ?_⟩, by omega, by omega, by omega, hk', fun q q1 => ?_⟩
      · rw [← hh1, hC'.at.1, Option.bind_some, hS'.o, Option.bind_some, s1, bn4_some, show isS (some (N + 2)) = some () from rfl, Option.bind_some, g1, Option.bind_some]
      · rw [up_ne _ _ (by omega), s3 o (by omega) (by omega)]
      · rw [g2, hz]
      · refine (s2 (wdl T p (min 8 (k - p).toNat)) (wdl_len ..) (fun i hi => wdl_get T p hi)).cg2 (fun q' hq' => up_ne _ _ (fun e => ?_))
        rw [e, hm8] at hq'
        rcases hq' with ⟨wr, V, h⟩ | ⟨w, L, gg, h⟩
        · cases h
        · cases h
      · rw [up_ne _ _ (by omega), s3 q (by omega) (by omega), u1' q (by omega), h6 q (by omega) (by omega) (by omega)]
        exact hfr q (by omega)
