/-! PLAIN 30: the component's acts -/
set_option maxRecDepth 100000
theorem KI.api {x n : Nat} {g : Nat → Nat} {F : Nat → Int} {P : Nat → Option Nat} {b : fk_M} {ρ τ σ U : Int → Int} {u : Nat} {K : Int → Int} {k : Nat} (hK : KI x n g F P b 1 ρ τ σ U u K k) : ∃ (q lw hk : Int → Nat) (pa sg un l5 l6 : Nat), Rg ρ τ σ ∧ P 5 = some pa ∧ P 6 = some sg ∧ Sg b pa sg σ ∧ x + 24 ≤ sg ∧ sg + 4 ≤ n ∧ Api x P b ρ τ σ q lw hk pa sg un l5 l6 (sg + 1) (sg + 2) (sg + 3) := by
  obtain ⟨⟨hf, -⟩, ep, cp, gp, ei, ci, gi, -, -, -, -, -, h0 | ⟨-, hR, q, lw, hk, pa, sg, un, l4, l5, l6, e4, e6, ps, im, p5, p6, hG, -, -, ⟨hS, hs⟩, -⟩⟩ := hK
  · omega
  · exact ⟨q, lw, hk, pa, sg, un, l5, l6, hR, p5, p6, hS, hs, hS.lt hf, Api.of hR p5 p6 hG hS hs⟩
theorem KI.st {x n : Nat} {g : Nat → Nat} {F : Nat → Int} {P : Nat → Option Nat} {b b' : fk_M} {ρ τ σ σ' U : Int → Int} {u : Nat} {K : Int → Int} {k pa sg : Nat} (hK : KI x n g F P b 1 ρ τ σ U u K k) (h5 : P 5 = some pa) (h6 : P 6 = some sg) (hb : ∀ q, (q < sg ∨ sg + 4 ≤ q) → b' q = b q) (hS' : Sg b' pa sg σ') (hR' : Rg ρ τ σ') : KI x n g F P b' 1 ρ τ σ' U u K k := by
  obtain ⟨⟨hf, hx, hg, hu, hk, h101, h111⟩, ep, cp, gp, ei, ci, gi, p100, p110, hLp, hLi, hne, h0 | ⟨-, hR, q, lw, hk', pa', sg', un, l4, l5, l6, e4, e6, ps, im, p5, p6, hG, hp4, hi4, ⟨hS, hsx⟩, hps, him, hdp, hdi⟩⟩ := hK
  · omega
  rw [h5] at p5
  rw [h6] at p6
  cases p5
  cases p6
  have hsn := hS.lt hf
  obtain ⟨hepn, wp, hepb⟩ := hLp.lt hf
  obtain ⟨hein, wi', heib⟩ := hLi.lt hf
  have hG' := hG
  obtain ⟨-, ⟨V4, w4, c4', g4, -, -, -, a4, -⟩, -, ⟨V6, w6, c6, g6, -, -, -, d4, -⟩, -⟩ := hG'
  have nb : ∀ {e c : Nat} {w : Bool} {gl : Nat → Option Nat}, b e = some (w, aQ c gl) → b' e = b e := fun {e c w gl} he => hb e (by
    by_cases hc : e < sg ∨ sg + 4 ≤ e
    · exact hc
    · exact absurd rfl (hS.ne he e (by omega) (by omega)))
  refine ⟨⟨fun q hq => by rw [hb q (by omega)]; exact hf q hq, hx, hg, hu, hk, h101, h111⟩, ep, cp, gp, ei, ci, gi, p100, p110, hLp.cg (nb hepb), hLi.cg (nb heib), hne, Or.inr ⟨rfl, hR', q, lw, hk', pa, sg, un, l4, l5, l6, e4, e6, ps, im, h5, h6, hG.kp hR (fun a w c _ ha hk => by rw [hb a (hS.apart ha hk)]; exact ha) (nb a4) (nb d4), hp4, hi4, ⟨hS', hsx⟩, fun i hi => ?_, fun i hi => ?_, hdp, hdi⟩⟩
  · obtain ⟨z1, z2, z3, z4, z5⟩ := hps i hi
    exact ⟨z1, z2.cg (fun q q1 q2 => hb q (by omega)) (fun _ _ _ => rfl), z3, z4, z5⟩
  · obtain ⟨z1, z2, z3, z4, z5⟩ := him i hi
    exact ⟨z1, z2.cg (fun q q1 q2 => hb q (by omega)) (fun _ _ _ => rfl), z3, z4, z5⟩
theorem KI.cg {x n : Nat} {g : Nat → Nat} {F : Nat → Int} {P : Nat → Option Nat} {b : fk_M} {h : Int} {ρ τ σ σ' U U' : Int → Int} {u : Nat} {K K' : Int → Int} {k : Nat} (hK : KI x n g F P b h ρ τ σ U u K k) (h1 : ∀ t, 0 ≤ t → t < 36 → σ' t = σ t) (h2 : ∀ i, i < u → ∀ t, 0 ≤ t → t < 36 → rw_ U' i t = rw_ U i t) (h3 : ∀ i, i < k → ∀ t, 0 ≤ t → t < 36 → rw_ K' i t = rw_ K i t) : KI x n g F P b h ρ τ σ' U' u K' k := by
  obtain ⟨hh, ep, cp, gp, ei, ci, gi, p100, p110, hLp, hLi, hne, h0 | ⟨e1, hR, q, lw, hk', pa, sg, un, l4, l5, l6, e4, e6, ps, im, p5, p6, hG, hp4, hi4, ⟨hS, hsx⟩, hps, him, hdp, hdi⟩⟩ := hK
  · exact ⟨hh, ep, cp, gp, ei, ci, gi, p100, p110, hLp, hLi, hne, Or.inl h0⟩
  · refine ⟨hh, ep, cp, gp, ei, ci, gi, p100, p110, hLp, hLi, hne, Or.inr ⟨e1, hR.cg h1, q, lw, hk', pa, sg, un, l4, l5, l6, e4, e6, ps, im, p5, p6, hG, hp4, hi4, ⟨hS.cg (fun _ _ _ => rfl) h1, hsx⟩, fun i hi => ?_, fun i hi => ?_, hdp, hdi⟩⟩
    · obtain ⟨z1, z2, z3, z4, z5⟩ := hps i hi
      exact ⟨z1, z2.cg (fun _ _ _ => rfl) (h2 i hi), z3.cg (h2 i hi), z4, z5⟩
    · obtain ⟨z1, z2, z3, z4, z5⟩ := him i hi
      exact ⟨z1, z2.cg (fun _ _ _ => rfl) (h3 i hi), z3.cg (h3 i hi), z4, z5⟩
/-! one number of a stage is written -/
theorem st_wS {x : Nat} {b : fk_M} {pa s : Nat} {R : Int → Int} (h : Sg b pa s R) (hs : x + 24 ≤ s) {p v : Int} (p0 : 0 ≤ p) (p1 : p < 5) (v0 : -128 ≤ v) (v1 : v ≤ 127) : ∃ b', (∀ F P A f l a, sI (hp x F P A f l a b) (some (s + 1)) 1 (ii p) (ii v) = some (hp x F P A f l a b')) ∧ Sg b' pa s (su1 R p v) ∧ ∀ q, (q < s ∨ s + 4 ≤ q) → b' q = b q := by
  obtain ⟨⟨V, h1, h2, h3, h4, h5, h6⟩, ⟨g1, i1, j1⟩, ⟨g2, i2, j2⟩, ⟨g3, i3, j3⟩⟩ := h
  refine ⟨fk_up b (s + 1) (aN 1 5 (upd g1 p.toNat (ii v))), fun F P A f l a => ?_, ⟨⟨V, (up_ne _ _ (by omega)).trans h1, h2, h3, h4, h5, ?_⟩, ⟨_, up_eq .., fun i hi => ?_⟩, ⟨g2, (up_ne _ _ (by omega)).trans i2, fun i hi => ?_⟩, ⟨g3, (up_ne _ _ (by omega)).trans i3, fun i hi => ?_⟩⟩, fun q hq => up_ne _ _ (by omega)⟩
  · rw [sI_of (ii v) ((hp_out _ _ _ _ _ _ _ _ (Or.inr (by omega))).trans i1) p0 (by omega) (by omega), hp_bu _ _ _ _ _ _ _ _ _ (Or.inr (by omega))]
    show some (hp x F P A f l a (fk_up b (s + 1) (aN 1 5 (upd g1 p.toNat (i_b (ii v)))))) = _
    rw [ii_b v0 v1]
  · unfold su1
    rw [if_neg (by omega), h6]
  · unfold su1 upd
    by_cases hc : i = p.toNat
    · rw [if_pos hc, if_pos (by omega)]
    · rw [if_neg hc, if_neg (by omega), j1 i hi]
  · unfold su1
    rw [if_neg (by omega), j2 i hi]
  · unfold su1
    rw [if_neg (by omega), j3 i hi]
theorem st_wT {x : Nat} {b : fk_M} {pa s : Nat} {R : Int → Int} (h : Sg b pa s R) (hs : x + 24 ≤ s) {p v : Int} (p0 : 0 ≤ p) (p1 : p < 5) (v0 : -128 ≤ v) (v1 : v ≤ 127) : ∃ b', (∀ F P A f l a, sI (hp x F P A f l a b) (some (s + 2)) 1 (ii p) (ii v) = some (hp x F P A f l a b')) ∧ Sg b' pa s (su1 R (5 + p) v) ∧ ∀ q, (q < s ∨ s + 4 ≤ q) → b' q = b q := by
  obtain ⟨⟨V, h1, h2, h3, h4, h5, h6⟩, ⟨g1, i1, j1⟩, ⟨g2, i2, j2⟩, ⟨g3, i3, j3⟩⟩ := h
  refine ⟨fk_up b (s + 2) (aN 1 5 (upd g2 p.toNat (ii v))), fun F P A f l a => ?_, ⟨⟨V, (up_ne _ _ (by omega)).trans h1, h2, h3, h4, h5, ?_⟩, ⟨g1, (up_ne _ _ (by omega)).trans i1, fun i hi => ?_⟩, ⟨_, up_eq .., fun i hi => ?_⟩, ⟨g3, (up_ne _ _ (by omega)).trans i3, fun i hi => ?_⟩⟩, fun q hq => up_ne _ _ (by omega)⟩
  · rw [sI_of (ii v) ((hp_out _ _ _ _ _ _ _ _ (Or.inr (by omega))).trans i2) p0 (by omega) (by omega), hp_bu _ _ _ _ _ _ _ _ _ (Or.inr (by omega))]
    show some (hp x F P A f l a (fk_up b (s + 2) (aN 1 5 (upd g2 p.toNat (i_b (ii v)))))) = _
    rw [ii_b v0 v1]
  · unfold su1
    rw [if_neg (by omega), h6]
  · unfold su1
    rw [if_neg (by omega), j1 i hi]
  · unfold su1 upd
    by_cases hc : i = p.toNat
    · rw [if_pos hc, if_pos (by omega)]
    · rw [if_neg hc, if_neg (by omega), j2 i hi]
  · unfold su1
    rw [if_neg (by omega), j3 i hi]
theorem st_wO {x : Nat} {b : fk_M} {pa s : Nat} {R : Int → Int} (h : Sg b pa s R) (hs : x + 24 ≤ s) {k v : Int} (k0 : 0 ≤ k) (k1 : k < 25) (v0 : -32768 ≤ v) (v1 : v ≤ 32767) : ∃ b', (∀ F P A f l a, sI (hp x F P A f l a b) (some (s + 3)) 2 (ii k) (ii v) = some (hp x F P A f l a b')) ∧ Sg b' pa s (su1 R (10 + k) v) ∧ ∀ q, (q < s ∨ s + 4 ≤ q) → b' q = b q := by
  obtain ⟨⟨V, h1, h2, h3, h4, h5, h6⟩, ⟨g1, i1, j1⟩, ⟨g2, i2, j2⟩, ⟨g3, i3, j3⟩⟩ := h
  refine ⟨fk_up b (s + 3) (aN 2 25 (upd g3 k.toNat (ii v))), fun F P A f l a => ?_, ⟨⟨V, (up_ne _ _ (by omega)).trans h1, h2, h3, h4, h5, ?_⟩, ⟨g1, (up_ne _ _ (by omega)).trans i1, fun i hi => ?_⟩, ⟨g2, (up_ne _ _ (by omega)).trans i2, fun i hi => ?_⟩, ⟨_, up_eq .., fun i hi => ?_⟩⟩, fun q hq => up_ne _ _ (by omega)⟩
  · rw [sI_of (ii v) ((hp_out _ _ _ _ _ _ _ _ (Or.inr (by omega))).trans i3) k0 (by omega) (by omega), hp_bu _ _ _ _ _ _ _ _ _ (Or.inr (by omega))]
    show some (hp x F P A f l a (fk_up b (s + 3) (aN 2 25 (upd g3 k.toNat (i_s (ii v)))))) = _
    rw [ii_s v0 v1]
  · unfold su1
    rw [if_neg (by omega), h6]
  · unfold su1
    rw [if_neg (by omega), j1 i hi]
  · unfold su1
    rw [if_neg (by omega), j2 i hi]
  · unfold su1 upd
    by_cases hc : i = k.toNat
    · rw [if_pos hc, if_pos (by omega)]
    · rw [if_neg hc, if_neg (by omega), j3 i hi]
theorem st_wG {x : Nat} {b : fk_M} {pa s : Nat} {R : Int → Int} (h : Sg b pa s R) (hs : x + 24 ≤ s) (v : Int) : ∃ b', (∀ F P A f l a, pV (hp x F P A f l a b) (some s) 13 4 (tI (ii v)) = some (hp x F P A f l a b')) ∧ Sg b' pa s (su1 R 35 v) ∧ ∀ q, (q < s ∨ s + 4 ≤ q) → b' q = b q := by
  obtain ⟨⟨V, h1, h2, h3, h4, h5, h6⟩, ⟨g1, i1, j1⟩, ⟨g2, i2, j2⟩, ⟨g3, i3, j3⟩⟩ := h
  refine ⟨fk_up b s (oB 13 (fk_set V 4 (tI (ii v)))), fun F P A f l a => ?_, ⟨⟨_, up_eq .., h2, h3, h4, h5, ?_⟩, ⟨g1, (up_ne _ _ (by omega)).trans i1, fun i hi => ?_⟩, ⟨g2, (up_ne _ _ (by omega)).trans i2, fun i hi => ?_⟩, ⟨g3, (up_ne _ _ (by omega)).trans i3, fun i hi => ?_⟩⟩, fun q hq => up_ne _ _ (by omega)⟩
  · rw [pV_of 4 (tI (ii v)) ((hp_out _ _ _ _ _ _ _ _ (Or.inr (by omega))).trans h1), hp_bu _ _ _ _ _ _ _ _ _ (Or.inr (by omega))]
  · unfold su1
    rw [if_pos rfl]
    rfl
  · unfold su1
    rw [if_neg (by omega), j1 i hi]
  · unfold su1
    rw [if_neg (by omega), j2 i hi]
  · unfold su1
    rw [if_neg (by omega), j3 i hi]
/-- an act of the component -/
def AK (x n : Nat) (g : Nat → Nat) (F : Nat → Int) (A : Nat → Int → Int) (f l : Nat → Int) (a : Nat → Int → Int) (b : fk_M) (kk : Nat) (ρ τ σ' U' : Int → Int) (u' : Nat) (K : Int → Int) (k : Nat) (z : Int32) (res : Option (Int32 × Nat × Nat × fk_M)) : Prop := ∃ F' P' A' b' n' k', res = some (z, n', k', hp x F' P' A' f l a b') ∧ KI x n' g F' P' b' 1 ρ τ σ' U' u' K k ∧ (F' 4 = 0 ∧ F' 3 = -1 ∧ F' 1 = F 1 ∧ F' 2 = F 2 ∧ A' 0 = A 0) ∧ n ≤ n' ∧ n' ≤ n + 5 ∧ kk ≤ k' ∧ k' ≤ kk + 62 ∧ ∀ q, Lw x b q → b' q = b q
theorem Lw.st {x s pa q : Nat} {b b1 : fk_M} {R : Int → Int} (h : Lw x b q) (hS : Sg b1 pa s R) (hs : x + 24 ≤ s) (he : b1 q = b q) : q < s ∨ s + 4 ≤ q := by
  rcases h with h | ⟨-, w, c, j, h⟩
  · omega
  · rw [h] at he
    obtain ⟨⟨V, h1, -⟩, ⟨g1, i1, -⟩, ⟨g2, i2, -⟩, ⟨g3, i3, -⟩⟩ := hS
    by_cases hc : q < s ∨ s + 4 ≤ q
    · exact hc
    · exfalso
      have : q = s ∨ q = s + 1 ∨ q = s + 2 ∨ q = s + 3 := by omega
      rcases this with rfl | rfl | rfl | rfl
      · rw [h1] at he; cases he
      · rw [i1] at he; cases he
      · rw [i2] at he; cases he
      · rw [i3] at he; cases he
theorem AK.mk {x n : Nat} {g : Nat → Nat} {F F1 : Nat → Int} {P' : Nat → Option Nat} {A A' : Nat → Int → Int} {f l : Nat → Int} {a : Nat → Int → Int} {kk : Nat} {ρ τ σ' U' : Int → Int} {u' : Nat} {K : Int → Int} {k : Nat} {z : Int32} {res : Option (Int32 × Nat × Nat × fk_M)} {b b' : fk_M} {n' k' : Nat} (h1 : ∀ j, j ≠ 100 → j ≠ 101 → F1 j = F j) (h2 : KI x n' g F1 P' b' 1 ρ τ σ' U' u' K k) (h3 : A' 0 = A 0) (h4 : n ≤ n') (h5 : n' ≤ n + 5) (h6 : kk ≤ k') (h7 : k' ≤ kk + 62) (h8 : ∀ q, Lw x b q → b' q = b q) (h : res = some (z, n', k', hp x (Fo F1 0) P' A' f l a b')) : AK x n g F A f l a b kk ρ τ σ' U' u' K k z res :=
  ⟨Fo F1 0, P', A', b', n', k', h, h2.F' ((u1_ne _ _ (by omega)).trans (u1_ne _ _ (by omega))) ((u1_ne _ _ (by omega)).trans (u1_ne _ _ (by omega))), ⟨Fo_4 .., Fo_3 .., ((u1_ne _ _ (by omega)).trans (u1_ne _ _ (by omega))).trans (h1 1 (by omega) (by omega)), ((u1_ne _ _ (by omega)).trans (u1_ne _ _ (by omega))).trans (h1 2 (by omega) (by omega)), h3⟩, h4, h5, h6, h7, h8⟩
/-- an act that isn't done -/
def AR (x n : Nat) (F : Nat → Int) (P : Nat → Option Nat) (A : Nat → Int → Int) (f l : Nat → Int) (a : Nat → Int → Int) (b : fk_M) (kk : Nat) (z w : Int) (res : Option (Int32 × Nat × Nat × fk_M)) : Prop := res = some (ii z, n, kk, hp x (Fo F w) P A f l a b)
theorem k_denied (x : Nat) (F : Nat → Int) (P : Nat → Option Nat) (A : Nat → Int → Int) (f l : Nat → Int) (a : Nat → Int → Int) (b : fk_M) (w : Int) : f_X1_denied (some x) (ii w) (hp x F P A f l a b) = some (ii 0, hp x (Fo F w) P A f l a b) := by
  unfold f_X1_denied
  simp (disch := first | omega | assumption) only [Option.bind_some, bn2_some, ii_lit, ii_neg, ii_add, ii_sub, ii_mul, ii_le, ii_lt, ii_eq, ii_ite, ii_or, ii_and, ii_bit, ii_rem, ii_div, b0_, b1_, b2_, b3_, true_and, and_true, u1_eq, u1_ne, u2_eq, u2_nk, u2_ni, uP_eq, uP_ne, gk1, gk2, gk3, gk4, gk10, gk11, gk12, gk13, gk14, gk15, gk17, gkr0, gkr7, gkr8, gkr9, gkr16, gkr18, gkr19, gkr5, gkr6, ok0, ok1, ok2, ok3, gl2_0, gl2_1, gl2_2, gl3_0, gl3_1, gl3_2, gm0, gm2, gm3, gm4, gm5, gm6, gm7, gm8, gm9, gm10, gm11, gm13, gm14, gm22, gm23, gm26, gm27, gm28, gm29, gm31, gm32, gm33, gm36, gm37, gm39, gm40, gm41, gm1, gm12, gm15, gm16, gm17, gm18, gm19, gm20, gm21, gm24, gm25, gm30, gm34, gm35, gm38, rk0, sk0, rk9, sk9, rk16, sk16, rk18, sk18, rk19, sk19, rm1, sm1, rm12, sm12, rm15, sm15, rm16, sm16, rm17, sm17, rm18, sm18, rm19, sm19, rm20, sm20, rm21, sm21, rm24, sm24, rm25, sm25, rm30, sm30, rm34, sm34, rm35, sm35, rm38, sm38, pk1, pk2, pk3, pk4, pk10, pk11, pk12, pk13, pk14, pk15, pk17, pkr5, pkr6, pm0, pm2, pm3, pm4, pm5, pm6, pm7, pm8, pm9, pm10, pm11, pm13, pz13_0, pz13_1, pm14, pz14_0, pz14_1, pm22, pm23, pm26, pm27, pm28, pm29, pm31, pm32, pm33, pm36, pm37, pm39, pm40, pm41, pl2_0, pl2_1, pl2_2, pl3_0, pl3_1, pl3_2, k_refused]
theorem k_granted (x : Nat) (F : Nat → Int) (P : Nat → Option Nat) (A : Nat → Int → Int) (f l : Nat → Int) (a : Nat → Int → Int) (b : fk_M) : f_X1_granted (some x) (hp x F P A f l a b) = some (ii 1, hp x (Fo F 0) P A f l a b) := by
  unfold f_X1_granted
  simp (disch := first | omega | assumption) only [Option.bind_some, bn2_some, ii_lit, ii_neg, ii_add, ii_sub, ii_mul, ii_le, ii_lt, ii_eq, ii_ite, ii_or, ii_and, ii_bit, ii_rem, ii_div, b0_, b1_, b2_, b3_, true_and, and_true, u1_eq, u1_ne, u2_eq, u2_nk, u2_ni, uP_eq, uP_ne, gk1, gk2, gk3, gk4, gk10, gk11, gk12, gk13, gk14, gk15, gk17, gkr0, gkr7, gkr8, gkr9, gkr16, gkr18, gkr19, gkr5, gkr6, ok0, ok1, ok2, ok3, gl2_0, gl2_1, gl2_2, gl3_0, gl3_1, gl3_2, gm0, gm2, gm3, gm4, gm5, gm6, gm7, gm8, gm9, gm10, gm11, gm13, gm14, gm22, gm23, gm26, gm27, gm28, gm29, gm31, gm32, gm33, gm36, gm37, gm39, gm40, gm41, gm1, gm12, gm15, gm16, gm17, gm18, gm19, gm20, gm21, gm24, gm25, gm30, gm34, gm35, gm38, rk0, sk0, rk9, sk9, rk16, sk16, rk18, sk18, rk19, sk19, rm1, sm1, rm12, sm12, rm15, sm15, rm16, sm16, rm17, sm17, rm18, sm18, rm19, sm19, rm20, sm20, rm21, sm21, rm24, sm24, rm25, sm25, rm30, sm30, rm34, sm34, rm35, sm35, rm38, sm38, pk1, pk2, pk3, pk4, pk10, pk11, pk12, pk13, pk14, pk15, pk17, pkr5, pkr6, pm0, pm2, pm3, pm4, pm5, pm6, pm7, pm8, pm9, pm10, pm11, pm13, pz13_0, pz13_1, pm14, pz14_0, pz14_1, pm22, pm23, pm26, pm27, pm28, pm29, pm31, pm32, pm33, pm36, pm37, pm39, pm40, pm41, pl2_0, pl2_1, pl2_2, pl3_0, pl3_1, pl3_2, k_well]
abbrev KIs (x n : Nat) (g : Nat → Nat) (F : Nat → Int) (P : Nat → Option Nat) (b : fk_M) (h : Int) (ρ τ σ U : Int → Int) (u : Nat) (K : Int → Int) (k : Nat) : Prop := KI x n g F P b h ρ τ σ U u K k
theorem Rg.su1S {ρ τ σ : Int → Int} (h : Rg ρ τ σ) {p v : Int} (p0 : 0 ≤ p) (p1 : p < ρ 2) (v0 : 0 ≤ v) (v1 : v ≤ ρ 0) : Rg ρ τ (su1 σ p v) := by
  obtain ⟨h1, h2, h3, h4, h5, h6, h7, h8, h9, h10, h11, h12, h13⟩ := h
  refine ⟨h1, h2, h3, h4, h5, h6, h7, fun q q0 q1 => ?_, fun q r q0 q1 r0 r1 => ?_, h10, h11, h12, ?_⟩
  · have := h8 q q0 q1
    unfold su1
    rw [if_neg (show ¬ 5 + q = p by omega)]
    split <;> omega
  · unfold su1
    rw [if_neg (by omega)]
    exact h9 q r q0 q1 r0 r1
  · unfold su1
    rw [if_neg (by omega)]
    exact h13
theorem Rg.su1T {ρ τ σ : Int → Int} (h : Rg ρ τ σ) {p v : Int} (p0 : 0 ≤ p) (p1 : p < ρ 2) (v0 : 0 ≤ v) (v1 : v ≤ 20) : Rg ρ τ (su1 σ (5 + p) v) := by
  obtain ⟨h1, h2, h3, h4, h5, h6, h7, h8, h9, h10, h11, h12, h13⟩ := h
  refine ⟨h1, h2, h3, h4, h5, h6, h7, fun q q0 q1 => ?_, fun q r q0 q1 r0 r1 => ?_, h10, h11, h12, ?_⟩
  · have := h8 q q0 q1
    unfold su1
    rw [if_neg (show ¬ q = 5 + p by omega)]
    split <;> omega
  · unfold su1
    rw [if_neg (by omega)]
    exact h9 q r q0 q1 r0 r1
  · unfold su1
    rw [if_neg (by omega)]
    exact h13
theorem Rg.su1O {ρ τ σ : Int → Int} (h : Rg ρ τ σ) {p q v : Int} (p0 : 0 ≤ p) (p1 : p < ρ 2) (q0 : 0 ≤ q) (q1 : q < ρ 2) (hpq : p ≠ q) (v0 : 0 ≤ v) (v1 : v ≤ 99) : Rg ρ τ (su1 σ (10 + 5 * p + q) v) := by
  obtain ⟨h1, h2, h3, h4, h5, h6, h7, h8, h9, h10, h11, h12, h13⟩ := h
  refine ⟨h1, h2, h3, h4, h5, h6, h7, fun t t0 t1 => ?_, fun t r t0 t1 r0 r1 => ?_, h10, h11, h12, ?_⟩
  · have := h8 t t0 t1
    unfold su1
    rw [if_neg (by omega), if_neg (by omega)]
    exact this
  · have := h9 t r t0 t1 r0 r1
    unfold su1
    by_cases hc : 10 + 5 * t + r = 10 + 5 * p + q
    · rw [if_pos hc]
      omega
    · rw [if_neg hc]
      exact this
  · unfold su1
    rw [if_neg (by omega)]
    exact h13
theorem k_change (x : Nat) (F : Nat → Int) (P : Nat → Option Nat) (A : Nat → Int → Int) (f l : Nat → Int) (a : Nat → Int → Int) (b : fk_M) {n kk : Nat} {g : Nat → Nat} {h : Int} {ρ τ σ U U' : Int → Int} {u : Nat} {K : Int → Int} {k : Nat} (hK : KI x n g F P b h ρ τ σ U u K k) {p : Int} (hp0 : rg p) : (w_change h ρ σ p ≠ 0 → AR x n F P A f l a b kk (-1) (w_change h ρ σ p) (f_X1_change g (some x) (ii p) n kk (hp x F P A f l a b))) ∧ (w_change h ρ σ p = 0 → Nt U σ U' u → AK x n g F A f l a b kk ρ τ (su1 σ p (ρ 0 - σ p)) U' (nu u) K k (ii (ρ 0 - σ p)) (f_X1_change g (some x) (ii p) n kk (hp x F P A f l a b))) := by
  unfold f_X1_change w_change AR
  rw [ok0, Option.bind_some, k_isPair x F P A f l a b hp0 hK.kq, Option.bind_some]
  by_cases h0 : (h = 1 ∧ 0 ≤ p ∧ p < ρ 2)
  rotate_left
  · rw [if_neg h0, if_neg h0, if_pos (show ii 0 = 0 from rfl), Option.bind_some, show (1 : Int32) = ii 1 from rfl, k_refused, bn2_some]
    exact ⟨fun _ => rfl, fun h => absurd h (by decide)⟩
  rw [if_pos h0, if_pos h0, if_neg (show ¬ ii 1 = 0 by decide)]
  obtain ⟨rfl, p0, p1⟩ := h0
  obtain ⟨q, lw, hk, pa, sg, un, l5, l6, hR, p5, p6, hS, hs, hsn, hA⟩ := hK.api
  have hw := hR.wd
  have hq := hR.pr p0 p1
  have hA' := hA
  obtain ⟨KP5, KP6, K1, K2, K3, K4, K5, K6, K7, K8, K9, K10, K11, K12, K13, K14, K15, K16, K17, K18, K19, K20, K21, K22, K23, K24, K25, K26, K27, K28, K29, K30, K31⟩ := hA'
  simp (disch := first | omega | assumption) only [Option.bind_some, bn2_some, ii_lit, ii_neg, ii_add, ii_sub, ii_mul, ii_le, ii_lt, ii_eq, ii_ite, ii_or, ii_and, ii_bit, ii_rem, ii_div, b0_, b1_, b2_, b3_, true_and, and_true, u1_eq, u1_ne, u2_eq, u2_nk, u2_ni, uP_eq, uP_ne, gk1, gk2, gk3, gk4, gk10, gk11, gk12, gk13, gk14, gk15, gk17, gkr0, gkr7, gkr8, gkr9, gkr16, gkr18, gkr19, gkr5, gkr6, ok0, ok1, ok2, ok3, gl2_0, gl2_1, gl2_2, gl3_0, gl3_1, gl3_2, gm0, gm2, gm3, gm4, gm5, gm6, gm7, gm8, gm9, gm10, gm11, gm13, gm14, gm22, gm23, gm26, gm27, gm28, gm29, gm31, gm32, gm33, gm36, gm37, gm39, gm40, gm41, gm1, gm12, gm15, gm16, gm17, gm18, gm19, gm20, gm21, gm24, gm25, gm30, gm34, gm35, gm38, rk0, sk0, rk9, sk9, rk16, sk16, rk18, sk18, rk19, sk19, rm1, sm1, rm12, sm12, rm15, sm15, rm16, sm16, rm17, sm17, rm18, sm18, rm19, sm19, rm20, sm20, rm21, sm21, rm24, sm24, rm25, sm25, rm30, sm30, rm34, sm34, rm35, sm35, rm38, sm38, pk1, pk2, pk3, pk4, pk10, pk11, pk12, pk13, pk14, pk15, pk17, pkr5, pkr6, pm0, pm2, pm3, pm4, pm5, pm6, pm7, pm8, pm9, pm10, pm11, pm13, pz13_0, pz13_1, pm14, pz14_0, pz14_1, pm22, pm23, pm26, pm27, pm28, pm29, pm31, pm32, pm33, pm36, pm37, pm39, pm40, pm41, pl2_0, pl2_1, pl2_2, pl3_0, pl3_1, pl3_2, KP5, KP6, K24, K28, K10, k_refused]
  by_cases hc : 2 * σ p = ρ 0
  · rw [if_pos hc, if_pos hc]
    exact ⟨fun _ => rfl, fun h => absurd h (by decide)⟩
  rw [if_neg hc, if_neg hc]
  refine ⟨fun h => absurd rfl h, fun _ hN => ?_⟩
  obtain ⟨F1, P1, b1, n1, k1, r1, r2, r3, r4, r5, r6, r7, r8, r9⟩ := k_remembers x F P A f l a b (kk := kk) hK
  have hK1 := r2 U' hN
  obtain ⟨q', lw', hk', pa', sg', un', l5', l6', hR', p5', p6', hS', hs', hsn', hA1⟩ := hK1.api
  obtain ⟨LP5, LP6, L1, L2, L3, L4, L5, L6, L7, L8, L9, L10, L11, L12, L13, L14, L15, L16, L17, L18, L19, L20, L21, L22, L23, L24, L25, L26, L27, L28, L29, L30, L31⟩ := hA1
  obtain ⟨b2, s1, s2, s3⟩ := st_wS (x := x) hS' hs' p0 (by omega) (v := ρ 0 - σ p) (by omega) (by omega)
  have hK2 := hK1.st p5' p6' s3 s2 (hR'.su1S p0 p1 (by omega) (by omega))
  obtain ⟨q2, lw2, hk2, pa2, sg2, un2, l52, l62, hR2, p52, p62, hS2, hs2, hsn2, hA2⟩ := hK2.api
  obtain ⟨MP5, MP6, M1, M2, M3, M4, M5, M6, M7, M8, M9, M10, M11, M12, M13, M14, M15, M16, M17, M18, M19, M20, M21, M22, M23, M24, M25, M26, M27, M28, M29, M30, M31⟩ := hA2
  obtain rfl : sg2 = sg' := by
    rw [p6'] at p62
    cases p62
    rfl
  have ev : su1 σ p (ρ 0 - σ p) p = ρ 0 - σ p := by
    unfold su1
    rw [if_pos rfl]
  have eb := ii_b (a := ρ 0 - σ p) (by omega) (by omega)
  refine AK.mk r3 hK2 rfl r5 r6 r7 r8 (fun q hq => (s3 q (hq.st hS' hs' (r9 q hq))).trans (r9 q hq)) (A' := A) ?_
  rw [r1, bn3_some]
  simp (disch := first | omega | assumption) only [Option.bind_some, bn2_some, ii_lit, ii_neg, ii_add, ii_sub, ii_mul, ii_le, ii_lt, ii_eq, ii_ite, ii_or, ii_and, ii_bit, ii_rem, ii_div, b0_, b1_, b2_, b3_, true_and, and_true, u1_eq, u1_ne, u2_eq, u2_nk, u2_ni, uP_eq, uP_ne, gk1, gk2, gk3, gk4, gk10, gk11, gk12, gk13, gk14, gk15, gk17, gkr0, gkr7, gkr8, gkr9, gkr16, gkr18, gkr19, gkr5, gkr6, ok0, ok1, ok2, ok3, gl2_0, gl2_1, gl2_2, gl3_0, gl3_1, gl3_2, gm0, gm2, gm3, gm4, gm5, gm6, gm7, gm8, gm9, gm10, gm11, gm13, gm14, gm22, gm23, gm26, gm27, gm28, gm29, gm31, gm32, gm33, gm36, gm37, gm39, gm40, gm41, gm1, gm12, gm15, gm16, gm17, gm18, gm19, gm20, gm21, gm24, gm25, gm30, gm34, gm35, gm38, rk0, sk0, rk9, sk9, rk16, sk16, rk18, sk18, rk19, sk19, rm1, sm1, rm12, sm12, rm15, sm15, rm16, sm16, rm17, sm17, rm18, sm18, rm19, sm19, rm20, sm20, rm21, sm21, rm24, sm24, rm25, sm25, rm30, sm30, rm34, sm34, rm35, sm35, rm38, sm38, pk1, pk2, pk3, pk4, pk10, pk11, pk12, pk13, pk14, pk15, pk17, pkr5, pkr6, pm0, pm2, pm3, pm4, pm5, pm6, pm7, pm8, pm9, pm10, pm11, pm13, pz13_0, pz13_1, pm14, pz14_0, pz14_1, pm22, pm23, pm26, pm27, pm28, pm29, pm31, pm32, pm33, pm36, pm37, pm39, pm40, pm41, pl2_0, pl2_1, pl2_2, pl3_0, pl3_1, pl3_2, LP5, LP6, L24, L28, L10, eb, s1, M24, MP6, M28, ev, k_well]
theorem k_step (x : Nat) (F : Nat → Int) (P : Nat → Option Nat) (A : Nat → Int → Int) (f l : Nat → Int) (a : Nat → Int → Int) (b : fk_M) {n kk : Nat} {g : Nat → Nat} {h : Int} {ρ τ σ U U' : Int → Int} {u : Nat} {K : Int → Int} {k : Nat} (hK : KI x n g F P b h ρ τ σ U u K k) {p s : Int} (hp0 : rg p) (hs0 : rg s) : (w_step h ρ σ p s ≠ 0 → AR x n F P A f l a b kk 0 (w_step h ρ σ p s) (f_X1_step g (some x) (ii p) (ii s) n kk (hp x F P A f l a b))) ∧ (w_step h ρ σ p s = 0 → Nt U σ U' u → AK x n g F A f l a b kk ρ τ (su1 σ (5 + p) s) U' (nu u) K k (ii 1) (f_X1_step g (some x) (ii p) (ii s) n kk (hp x F P A f l a b))) := by
  unfold f_X1_step f_X1_step_J33 w_step AR
  have ew : f_X1_why (some x) (ii (if (h = 1 ∧ 0 ≤ p ∧ p < ρ 2) then 1 else 0)) (ii s) 0 20 (hp x F P A f l a b) = some (ii (wy (h = 1 ∧ 0 ≤ p ∧ p < ρ 2) (0 ≤ s ∧ s ≤ 20))) := by
    have := k_why (hp x F P A f l a b) (some x) (c := if (h = 1 ∧ 0 ≤ p ∧ p < ρ 2) then 1 else 0) (v := s) (lo := 0) (hi := 20) (by (repeat' split) <;> omega) hs0 (by omega) (by omega)
    simp only [b1_] at this
    exact this
  rw [ok0, Option.bind_some, k_isPair x F P A f l a b hp0 hK.kq, Option.bind_some, Option.bind_some, ew, Option.bind_some]
  have hy := wy_rg (h = 1 ∧ 0 ≤ p ∧ p < ρ 2) (0 ≤ s ∧ s ≤ 20)
  by_cases h0 : (h = 1 ∧ 0 ≤ p ∧ p < ρ 2)
  rotate_left
  · have e1 : wy (h = 1 ∧ 0 ≤ p ∧ p < ρ 2) (0 ≤ s ∧ s ≤ 20) = 1 := by
      unfold wy
      rw [if_neg h0]
    rw [if_neg h0, e1, if_neg (show ¬ ii 1 = 0 by decide), if_neg (show ¬ ii 1 ≤ 0 by decide), Option.bind_some, k_denied, bn2_some, if_pos (show ii 0 = 0 ∨ ii 0 = 1 from Or.inl rfl)]
    exact ⟨fun _ => rfl, fun h => absurd h (by decide)⟩
  rw [if_pos h0]
  by_cases h1 : 0 ≤ s ∧ s ≤ 20
  rotate_left
  · have e1 : wy (h = 1 ∧ 0 ≤ p ∧ p < ρ 2) (0 ≤ s ∧ s ≤ 20) = 2 := by
      unfold wy
      rw [if_pos h0, if_neg h1]
    rw [if_neg h1, e1, if_neg (show ¬ ii 2 = 0 by decide), if_neg (show ¬ ii 2 ≤ 0 by decide), Option.bind_some, k_denied, bn2_some, if_pos (show ii 0 = 0 ∨ ii 0 = 1 from Or.inl rfl)]
    exact ⟨fun _ => rfl, fun h => absurd h (by decide)⟩
  have e1 : wy (h = 1 ∧ 0 ≤ p ∧ p < ρ 2) (0 ≤ s ∧ s ≤ 20) = 0 := wy_0.mpr ⟨h0, h1⟩
  rw [if_pos h1, e1, if_pos (show ii 0 = 0 from rfl)]
  obtain ⟨rfl, p0, p1⟩ := h0
  obtain ⟨q, lw, hk, pa, sg, un, l5, l6, hR, p5, p6, hS, hs, hsn, hA⟩ := hK.api
  have hw := hR.wd
  have hq := hR.pr p0 p1
  obtain ⟨KP5, KP6, K1, K2, K3, K4, K5, K6, K7, K8, K9, K10, K11, K12, K13, K14, K15, K16, K17, K18, K19, K20, K21, K22, K23, K24, K25, K26, K27, K28, K29, K30, K31⟩ := hA
  rw [gkr6, Option.bind_some, KP6, K25, Option.bind_some, K29 _ _ _ _ _ _ p0 (by omega), Option.bind_some]
  by_cases hc : σ (5 + p) = s
  · rw [if_pos hc, if_pos (show ii (σ (5 + p)) = ii s by rw [hc]), if_neg (show ¬ (5 : Int32) ≤ 0 by decide), Option.bind_some, show (5 : Int32) = ii 5 from rfl, k_denied, bn2_some, if_pos (show ii 0 = 0 ∨ ii 0 = 1 from Or.inl rfl)]
    exact ⟨fun _ => rfl, fun h => absurd h (by decide)⟩
  rw [if_neg hc, if_neg (show ¬ ii (σ (5 + p)) = ii s by rw [ii_eq (by omega) (by omega)]; exact hc), if_pos (show ii 0 ≤ 0 by decide), Option.bind_some]
  refine ⟨fun h => absurd rfl h, fun _ hN => ?_⟩
  obtain ⟨F1, P1, b1, n1, k1, r1, r2, r3, r4, r5, r6, r7, r8, r9⟩ := k_remembers x F P A f l a b (kk := kk) hK
  have hK1 := r2 U' hN
  obtain ⟨q', lw', hk', pa', sg', un', l5', l6', hR', p5', p6', hS', hs', hsn', hA1⟩ := hK1.api
  obtain ⟨LP5, LP6, L1, L2, L3, L4, L5, L6, L7, L8, L9, L10, L11, L12, L13, L14, L15, L16, L17, L18, L19, L20, L21, L22, L23, L24, L25, L26, L27, L28, L29, L30, L31⟩ := hA1
  obtain ⟨b2, s1, s2, s3⟩ := st_wT (x := x) hS' hs' p0 (by omega) (v := s) (by omega) (by omega)
  have hK2 := hK1.st p5' p6' s3 s2 (hR'.su1T p0 p1 (by omega) (by omega))
  have eb := ii_b (a := s) (by omega) (by omega)
  refine AK.mk r3 hK2 rfl r5 r6 r7 r8 (fun q hq => (s3 q (hq.st hS' hs' (r9 q hq))).trans (r9 q hq)) (A' := A) ?_
  rw [r1, bn3_some, gkr6, Option.bind_some, LP6, L25, Option.bind_some, eb, s1, Option.bind_some, ok0, Option.bind_some, k_granted, bn2_some, if_pos (show ii 1 = 0 ∨ ii 1 = 1 from Or.inr rfl)]
theorem k_pay (x : Nat) (F : Nat → Int) (P : Nat → Option Nat) (A : Nat → Int → Int) (f l : Nat → Int) (a : Nat → Int → Int) (b : fk_M) {n kk : Nat} {g : Nat → Nat} {h : Int} {ρ τ σ U U' : Int → Int} {u : Nat} {K : Int → Int} {k : Nat} (hK : KI x n g F P b h ρ τ σ U u K k) {p r m : Int} (hp0 : rg p) (hr0 : rg r) (hm0 : rg m) : (w_pay h ρ σ p r m ≠ 0 → AR x n F P A f l a b kk (-1) (w_pay h ρ σ p r m) (f_X1_pay g (some x) (ii p) (ii r) (ii m) n kk (hp x F P A f l a b))) ∧ (w_pay h ρ σ p r m = 0 → Nt U σ U' u → AK x n g F A f l a b kk ρ τ (su1 σ (10 + 5 * p + r) (σ (10 + 5 * p + r) - m)) U' (nu u) K k (ii (σ (10 + 5 * p + r) - m)) (f_X1_pay g (some x) (ii p) (ii r) (ii m) n kk (hp x F P A f l a b))) := by
  unfold f_X1_pay f_X1_pay_J34 w_pay AR
  have ew : f_X1_why (some x) (ii (if (h = 1 ∧ 0 ≤ p ∧ p < ρ 2) ∧ (h = 1 ∧ 0 ≤ r ∧ r < ρ 2) ∧ p ≠ r then 1 else 0)) (ii m) 1 99 (hp x F P A f l a b) = some (ii (wy ((h = 1 ∧ 0 ≤ p ∧ p < ρ 2) ∧ (h = 1 ∧ 0 ≤ r ∧ r < ρ 2) ∧ p ≠ r) (1 ≤ m ∧ m ≤ 99))) := by
    have := k_why (hp x F P A f l a b) (some x) (c := if (h = 1 ∧ 0 ≤ p ∧ p < ρ 2) ∧ (h = 1 ∧ 0 ≤ r ∧ r < ρ 2) ∧ p ≠ r then 1 else 0) (v := m) (lo := 1) (hi := 99) (by (repeat' split) <;> omega) hm0 (by omega) (by omega)
    simp only [b1_] at this
    exact this
  rw [ok0, Option.bind_some, k_areTwo x F P A f l a b hp0 hr0 hK.kq, Option.bind_some, Option.bind_some, ew, Option.bind_some]
  have hy := wy_rg ((h = 1 ∧ 0 ≤ p ∧ p < ρ 2) ∧ (h = 1 ∧ 0 ≤ r ∧ r < ρ 2) ∧ p ≠ r) (1 ≤ m ∧ m ≤ 99)
  by_cases h0 : wy ((h = 1 ∧ 0 ≤ p ∧ p < ρ 2) ∧ (h = 1 ∧ 0 ≤ r ∧ r < ρ 2) ∧ p ≠ r) (1 ≤ m ∧ m ≤ 99) = 0
  rotate_left
  · rw [if_neg h0, if_neg (show ¬ ii (wy ((h = 1 ∧ 0 ≤ p ∧ p < ρ 2) ∧ (h = 1 ∧ 0 ≤ r ∧ r < ρ 2) ∧ p ≠ r) (1 ≤ m ∧ m ≤ 99)) = 0 by rw [show (0 : Int32) = ii 0 from rfl, ii_eq (by omega) (by omega)]; exact h0), if_neg (show ¬ ii (wy ((h = 1 ∧ 0 ≤ p ∧ p < ρ 2) ∧ (h = 1 ∧ 0 ≤ r ∧ r < ρ 2) ∧ p ≠ r) (1 ≤ m ∧ m ≤ 99)) ≤ 0 by rw [show (0 : Int32) = ii 0 from rfl, ii_le (by omega) (by omega)]; omega), Option.bind_some, k_refused, bn2_some]
    exact ⟨fun _ => rfl, fun h => absurd h h0⟩
  rw [if_pos h0, h0, if_pos (show ii 0 = 0 from rfl)]
  obtain ⟨⟨⟨rfl, p0, p1⟩, ⟨-, q0, q1⟩, hpq⟩, hm1, hm2⟩ := wy_0.mp h0
  obtain ⟨q, lw, hk, pa, sg, un, l5, l6, hR, p5, p6, hS, hs, hsn, hA⟩ := hK.api
  have hw := hR.wd
  have hd := hR.ds p0 p1 q0 q1
  have eo := k_owed x F P A f l a b hR hA (p := p) (r := r) p0 (by omega) q0 (by omega)
  rw [Option.bind_some, eo, Option.bind_some]
  by_cases hc : m ≤ σ (10 + 5 * p + r)
  rotate_left
  · rw [if_neg hc, if_neg (show ¬ ii m ≤ ii (σ (10 + 5 * p + r)) by rw [ii_le (by omega) (by omega)]; exact hc), if_neg (show ¬ (5 : Int32) ≤ 0 by decide), Option.bind_some, show (5 : Int32) = ii 5 from rfl, k_refused, bn2_some]
    exact ⟨fun _ => rfl, fun h => absurd h (by decide)⟩
  rw [if_pos hc, if_pos (show ii m ≤ ii (σ (10 + 5 * p + r)) by rw [ii_le (by omega) (by omega)]; exact hc), if_pos (show ii 0 ≤ 0 by decide), Option.bind_some]
  refine ⟨fun h => absurd rfl h, fun _ hN => ?_⟩
  obtain ⟨F1, P1, b1, n1, k1, r1, r2, r3, r4, r5, r6, r7, r8, r9⟩ := k_remembers x F P A f l a b (kk := kk) hK
  have hK1 := r2 U' hN
  obtain ⟨q', lw', hk', pa', sg', un', l5', l6', hR', p5', p6', hS', hs', hsn', hA1⟩ := hK1.api
  obtain ⟨LP5, LP6, L1, L2, L3, L4, L5, L6, L7, L8, L9, L10, L11, L12, L13, L14, L15, L16, L17, L18, L19, L20, L21, L22, L23, L24, L25, L26, L27, L28, L29, L30, L31⟩ := hA1
  obtain ⟨b2, s1, s2, s3⟩ := st_wO (x := x) hS' hs' (k := 5 * p + r) (by omega) (by omega) (v := σ (10 + 5 * p + r) - m) (by omega) (by omega)
  rw [show 10 + (5 * p + r) = 10 + 5 * p + r by omega] at s2
  have hK2 := hK1.st p5' p6' s3 s2 (hR'.su1O p0 p1 q0 q1 hpq (by omega) (by omega))
  obtain ⟨q2, lw2, hk2, pa2, sg2, un2, l52, l62, hR2, p52, p62, hS2, hs2, hsn2, hA2⟩ := hK2.api
  have eo2 := k_owed x F1 P1 A f l a b2 hR2 hA2 (p := p) (r := r) p0 (by omega) q0 (by omega)
  have ev : su1 σ (10 + 5 * p + r) (σ (10 + 5 * p + r) - m) (10 + 5 * p + r) = σ (10 + 5 * p + r) - m := by
    unfold su1
    rw [if_pos rfl]
  rw [ev] at eo2
  have eb := ii_s (a := m) (by omega) (by omega)
  have eb2 := ii_s (a := σ (10 + 5 * p + r) - m) (by omega) (by omega)
  have e30 := L30 F1 A f l a (5 * p + r) (by omega) (by omega)
  rw [show 10 + (5 * p + r) = 10 + 5 * p + r by omega] at e30
  refine AK.mk r3 hK2 rfl r5 r6 r7 r8 (fun q hq => (s3 q (hq.st hS' hs' (r9 q hq))).trans (r9 q hq)) (A' := A) ?_
  rw [r1, bn3_some]
  simp (disch := first | omega | assumption) only [Option.bind_some, bn2_some, ii_lit, ii_neg, ii_add, ii_sub, ii_mul, ii_le, ii_lt, ii_eq, ii_ite, ii_or, ii_and, ii_bit, ii_rem, ii_div, b0_, b1_, b2_, b3_, true_and, and_true, u1_eq, u1_ne, u2_eq, u2_nk, u2_ni, uP_eq, uP_ne, gk1, gk2, gk3, gk4, gk10, gk11, gk12, gk13, gk14, gk15, gk17, gkr0, gkr7, gkr8, gkr9, gkr16, gkr18, gkr19, gkr5, gkr6, ok0, ok1, ok2, ok3, gl2_0, gl2_1, gl2_2, gl3_0, gl3_1, gl3_2, gm0, gm2, gm3, gm4, gm5, gm6, gm7, gm8, gm9, gm10, gm11, gm13, gm14, gm22, gm23, gm26, gm27, gm28, gm29, gm31, gm32, gm33, gm36, gm37, gm39, gm40, gm41, gm1, gm12, gm15, gm16, gm17, gm18, gm19, gm20, gm21, gm24, gm25, gm30, gm34, gm35, gm38, rk0, sk0, rk9, sk9, rk16, sk16, rk18, sk18, rk19, sk19, rm1, sm1, rm12, sm12, rm15, sm15, rm16, sm16, rm17, sm17, rm18, sm18, rm19, sm19, rm20, sm20, rm21, sm21, rm24, sm24, rm25, sm25, rm30, sm30, rm34, sm34, rm35, sm35, rm38, sm38, pk1, pk2, pk3, pk4, pk10, pk11, pk12, pk13, pk14, pk15, pk17, pkr5, pkr6, pm0, pm2, pm3, pm4, pm5, pm6, pm7, pm8, pm9, pm10, pm11, pm13, pz13_0, pz13_1, pm14, pz14_0, pz14_1, pm22, pm23, pm26, pm27, pm28, pm29, pm31, pm32, pm33, pm36, pm37, pm39, pm40, pm41, pl2_0, pl2_1, pl2_2, pl3_0, pl3_1, pl3_2, LP6, L26, e30, eb, eb2, s1, eo2, k_well]
