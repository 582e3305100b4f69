/-! PLAIN 55: the component's reader goes on to the next token -/
set_option maxRecDepth 100000
/-- tokens that can still come -/
def tkc (n : Int) (t : Tkn) : Nat := (n - t.2.2.1).toNat + (if t.1 = 1 then 0 else 1)
/-- what a reader's step keeps -/
def Fx (r : Nat) (n : Int) (m : fk_M) (N kk : Nat) (t : Tkn) (m' : fk_M) (N' k' : Nat) (t' : Tkn) : Prop := (N ≤ N' ∧ kk ≤ k') ∧ (N' + 5 * tkc n t' ≤ N + 5 * tkc n t ∧ k' + 36 * tkc n t' ≤ kk + 36 * tkc n t) ∧ (∀ q, q < N → q ≠ r → q ≠ r + 1 → m' q = m q ∨ ∃ V V', m q = some (true, oB 16 V) ∧ m' q = some (true, oB 16 V')) ∧ (∀ q, N' ≤ q → m' q = none) ∧ ∀ q w, StC m q w → StC m' q w
theorem k_on {m : fk_M} {r tp N : Nat} {T : Int → Int} {n : Int} {t : Tkn} {e : Er} (hT : Tx8 T n) (g : Nat → Nat) (hfr : ∀ q, N ≤ q → m q = none) (h : RS m r tp n t e) (ht : isT T n t) (hA : TA m tp T n) (h0 : StC m (g 0) []) (kk : Nat) : ∃ N' k' m', f_X3_on g (some r) N kk m = some (N', k', m') ∧ RS m' r tp n (if e.1 = 0 then aOn T n t else t) e ∧ Fx r n m N kk t m' N' k' (if e.1 = 0 then aOn T n t else t) := by
  obtain ⟨z, hR, hC, hK⟩ := h
  obtain ⟨k1, k2, k3, k4, -⟩ := hK.at
  have hok := ht.ok hT
  have hr := hok.2.2.1
  have refl : Fx r n m N kk t m N kk t := ⟨⟨Nat.le_refl _, Nat.le_refl _⟩, ⟨Nat.le_refl _, Nat.le_refl _⟩, fun _ _ _ _ => Or.inl rfl, hfr, fun _ _ h => h⟩
  unfold f_X3_on
  rw [hR.o, Option.bind_some, hR.ov, Option.bind_some]
  by_cases hc : e.1 = 0
  rotate_left
  · rw [if_neg hc, if_neg hc, if_neg (by decide)]
    exact ⟨N, kk, m, rfl, ⟨z, hR, hC, hK⟩, refl⟩
  rw [if_pos hc, if_pos hc, if_pos rfl, hR.tk.1, Option.bind_some, k2, Option.bind_some]
  by_cases h1 : t.1 = 1
  · have he : aOn T n t = t := by
      obtain ⟨e', e0, e1, rfl⟩ := ht
      exact aOn_end hT e0 e1 h1
    rw [he, if_pos (show ii t.1 = 1 by rw [h1]; rfl)]
    exact ⟨N, kk, m, rfl, ⟨z, hR, hC, hK⟩, refl⟩
  rw [if_neg (show ¬ ii t.1 = 1 by rw [show (1 : Int32) = ii 1 from rfl, ii_eq (by omega) (by omega)]; exact h1), hR.tk.2.1, Option.bind_some, hC.o, Option.bind_some]
  have htp : tp ≠ r + 1 := fun e' => by
    obtain ⟨V, c1, -⟩ := hC
    obtain ⟨w, L, gv, t1, -⟩ := hA
    rw [e', c1] at t1
    cases t1
  obtain ⟨z', N', k', m', g1, g2, g3, g4, g5, g6, g7, g8⟩ := k_next hT g hfr hC htp h0 hA hok.2.1.1 hok.2.1.2 kk
  have hge := tkn_ge hT hok.2.1.1 hok.2.1.2
  have hok' := tkn_ok hT hok.2.1.1 hok.2.1.2
  have hao : aOn T n t = tkn T n t.2.2.1 := rfl
  rw [hao]
  obtain ⟨V, v1, v2, v3, v4, v5, v6, v7⟩ := hR
  have hrN : r < N := by
    by_cases hcc : N ≤ r
    · rw [hfr r hcc] at v1; cases v1
    · omega
  have hr' : m' r = some (true, oB 2 V) := (g7 r hrN (by omega)).trans v1
  obtain ⟨W, s, w1, w2, w3, w4, w5, w6⟩ := g3
  rw [g1, bn4_some, pV_of 2 _ hr', Option.bind_some]
  have hcell : ∀ q', (∃ wr V, m' q' = some (wr, oB 16 V)) ∨ (∃ w L g, m' q' = some (w, aN 1 L g)) → q' ≠ r := fun q' hq' e' => by
    rw [e', hr'] at hq'
    rcases hq' with ⟨wr, V, h⟩ | ⟨w, L, gg, h⟩
    · cases h
    · cases h
  have hp1 : tkc n (tkn T n t.2.2.1) + 1 ≤ tkc n t := by
    unfold tkc
    rw [if_neg h1]
    have := hok.2.1
    have := hok'.2.1
    split
    · omega
    · have := hge.2 (by assumption)
      omega
  refine ⟨N', k', _, rfl, ⟨z', ⟨_, up_eq .., v2, v3, rfl, v5, v6, v7⟩, g2.cg (up_ne _ _ (by omega)), ⟨W, s, (up_ne _ _ (by omega)).trans w1, w2, w3, w4, w5, w6.cg2 (fun q' hq' => up_ne _ _ (hcell q' hq'))⟩⟩, ⟨by omega, by omega⟩, ⟨by omega, by omega⟩, fun q q1 q2 q3 => Or.inl ((up_ne _ _ q2).trans (g7 q q1 q3)), fun q hq => (up_ne _ _ (by omega)).trans (g8 q hq), fun q w hs => ?_⟩
  obtain ⟨Vc, c1, -⟩ := hC
  refine hs.cg2 (fun q' hq' => ?_)
  have a1 : q' ≠ r := fun e' => by
    rw [e', v1] at hq'
    rcases hq' with ⟨wr, V, h⟩ | ⟨w, L, gg, h⟩
    · cases h
    · cases h
  have a2 : q' ≠ r + 1 := fun e' => by
    rw [e', c1] at hq'
    rcases hq' with ⟨wr, V, h⟩ | ⟨w, L, gg, h⟩
    · cases h
    · cases h
  have a3 : q' < N := by
    by_cases hcc : N ≤ q'
    · rw [hfr q' hcc] at hq'
      rcases hq' with ⟨wr, V, h⟩ | ⟨w, L, gg, h⟩
      · cases h
      · cases h
    · omega
  rw [up_ne _ _ a1, g7 q' a3 a2]
