/-! PLAIN 31: a season, undo, images: the component -/
set_option maxRecDepth 100000
def sgo (ρ σ : Int → Int) (k : Int) : Int → Int := fun t => if 0 ≤ t ∧ t < k then sea ρ σ t else σ t
theorem sgo_Rg {ρ τ σ : Int → Int} (h : Rg ρ τ σ) (h9 : σ 35 ≠ 999) {k : Int} (k0 : 0 ≤ k) (k1 : k ≤ ρ 2) : Rg ρ τ (sgo ρ σ k) := by
  have hs := sea_Rg h h9
  have hw := h.wd
  obtain ⟨g1, g2, g3, g4, g5, g6, g7, g8, -⟩ := hs
  obtain ⟨h1, h2, h3, h4, h5, h6, h7, h8, h9', h10, h11, h12, h13⟩ := h
  refine ⟨h1, h2, h3, h4, h5, h6, h7, fun p p0 p1 => ?_, fun p q p0 p1 q0 q1 => ?_, h10, h11, h12, ?_⟩
  · have a1 := h8 p p0 p1
    have a2 := g8 p p0 p1
    unfold sgo
    rw [if_neg (show ¬ (0 ≤ 5 + p ∧ 5 + p < k) by omega)]
    split <;> omega
  · unfold sgo
    rw [if_neg (by omega)]
    exact h9' p q p0 p1 q0 q1
  · unfold sgo
    rw [if_neg (by omega)]
    exact h13
theorem k_season (x : Nat) (F : Nat → Int) (P : Nat → Option Nat) (A : Nat → Int → Int) (f l : Nat → Int) (a : Nat → Int → Int) (b : fk_M) {n kk : Nat} {g : Nat → Nat} {h : Int} {ρ τ σ U U' : Int → Int} {u : Nat} {K : Int → Int} {k : Nat} (hK : KI x n g F P b h ρ τ σ U u K k) : (w_season h σ ≠ 0 → AR x n F P A f l a b kk (-1) (w_season h σ) (f_X1_season g (some x) n kk (hp x F P A f l a b))) ∧ (w_season h σ = 0 → Nt U σ U' u → AK x n g F A f l a b kk ρ τ (sea ρ σ) U' (nu u) K k (mst ρ (sea ρ σ) 0) (f_X1_season g (some x) n kk (hp x F P A f l a b))) := by
  unfold f_X1_season w_season AR
  rw [gkr5, Option.bind_some]
  by_cases h0 : h = 1
  rotate_left
  · rw [if_neg h0, k_none hK.kq h0, if_pos rfl, ok0, Option.bind_some, show (1 : Int32) = ii 1 from rfl, k_refused, bn2_some]
    exact ⟨fun _ => rfl, fun h => absurd h (by decide)⟩
  subst h0
  obtain ⟨q, lw, hk, pa, sg, un, l5, l6, hR, p5, p6, hS, hs, hsn, hA⟩ := hK.api
  have hw := hR.wd
  have r35 : gI (hp x F P A f l a b) (some sg) 13 4 = some (ii (σ 35)) := hA.2.2.2.2.2.2.2.2.2.2.2.2.2.2.2.2.2.2.2.2.2.2.2.2.2.2.2.2.1 F A f l a
  rw [p5, if_neg (show ¬ some pa = none from fun h => by cases h), gkr6, Option.bind_some, p6, r35, Option.bind_some, if_pos rfl]
  by_cases h9 : σ 35 = 999
  · rw [if_pos h9, h9, if_pos (show ii 999 = 999 from rfl), ok0, Option.bind_some, show (3 : Int32) = ii 3 from rfl, k_refused, bn2_some]
    exact ⟨fun _ => rfl, fun h => absurd h (by decide)⟩
  rw [if_neg h9, if_neg (show ¬ ii (σ 35) = 999 by rw [show (999 : Int32) = ii 999 from rfl, ii_eq (by omega) (by omega)]; exact h9), ok0, Option.bind_some]
  refine ⟨fun h => absurd rfl h, fun _ hN => ?_⟩
  obtain ⟨F1, P1, b1, n1, k1, r1, r2, r3, r4, r5, r6, r7, r8, r9⟩ := k_remembers x F P A f l a b (kk := kk) hK
  have hK1 := r2 U' hN
  rw [r1, bn3_some]
  have hL := loop_ex (fun N (_ : Unit) p (y : (Nat → Int → Int) × fk_M) => f_X1_season_L38 g (some x) n1 k1 N (ii p) (hp x F1 P1 y.1 f l a y.2)) (fun u _ => u) (fun _ y => f_X1_season_L38 g (some x) n1 k1 1 (ii (ρ 2)) (hp x F1 P1 y.1 f l a y.2)) (fun _ p y => KI x n1 g F1 P1 y.2 1 ρ τ (sgo ρ σ p) U' (nu u) K k ∧ y.1 0 = A 0 ∧ ∀ q, Lw x b q → y.2 q = b q) (lo := 0) (hi := ρ 2) ?_ ?_ (ρ 2).toNat fk_fuel () 0 (A, b1) (by omega) (by omega) (by unfold fk_fuel; omega) ⟨hK1.cg (fun t _ _ => by unfold sgo; rw [if_neg (by omega)]) (fun _ _ _ _ _ => rfl) (fun _ _ _ _ _ => rfl), rfl, r9⟩
  · obtain ⟨⟨A2, b2⟩, t1, t2, t3, t4⟩ := hL
    dsimp only at t1 t2 t3 t4
    obtain ⟨q', lw', hk', pa', sg', un', l5', l6', hR', p5', p6', hS', hs', hsn', hA1⟩ := t2.api
    have z35 : sgo ρ σ (ρ 2) 35 = σ 35 := by
      unfold sgo
      rw [if_neg (by omega)]
    have r35' : gI (hp x F1 P1 A2 f l a b2) (some sg') 13 4 = some (ii (σ 35)) := by
      have := hA1.2.2.2.2.2.2.2.2.2.2.2.2.2.2.2.2.2.2.2.2.2.2.2.2.2.2.2.2.1 F1 A2 f l a
      rwa [z35] at this
    obtain ⟨b3, s1, s2, s3⟩ := st_wG (x := x) hS' hs' (σ 35 + 1)
    have hsea : ∀ t, 0 ≤ t → t < 36 → sea ρ σ t = su1 (sgo ρ σ (ρ 2)) 35 (σ 35 + 1) t := fun t t0 t1 => by
      unfold su1 sgo
      by_cases hc : t = 35
      · rw [if_pos hc, hc]
        unfold sea
        rw [if_neg (by omega), if_pos rfl]
      · rw [if_neg hc]
        by_cases hc2 : 0 ≤ t ∧ t < ρ 2
        · rw [if_pos hc2]
        · rw [if_neg hc2]
          unfold sea
          rw [if_neg hc2, if_neg hc]
    have s2' : Sg b3 pa' sg' (sea ρ σ) := s2.cg (fun _ _ _ => rfl) hsea
    have hK3 := t2.st p5' p6' s3 s2' (sea_Rg hR h9)
    obtain ⟨q3, lw3, hk3, pa3, sg3, un3, l53, l63, hR3, p53, p63, hS3, hs3, hsn3, hA3⟩ := hK3.api
    obtain ⟨A3, m1, m2⟩ := k_mastersIn x F1 P1 A2 f l a b3 hR3 hA3 (n := 0) (by omega) (by omega)
    refine AK.mk (A' := A3) r3 hK3 (m2.trans t3) r5 r6 r7 r8 (fun q hq => (s3 q (hq.st hS' hs' (t4 q hq))).trans (t4 q hq)) ?_
    rw [show f_X1_season_L38 g (some x) n1 k1 fk_fuel 0 (hp x F1 P1 A f l a b1) = _ from t1, show (1 : Nat) = 0 + 1 from rfl, f_X1_season_L38]
    have hk1 := hA1.2.2.1 F1 A2 f l a
    rw [ok0, Option.bind_some, hk1, Option.bind_some, if_pos (by rw [ii_le (by omega) (by omega)]; omega), gkr6, Option.bind_some, p6', r35', Option.bind_some, show (1 : Int32) = ii 1 from rfl, ii_add, s1, Option.bind_some, ok0, Option.bind_some, show (0 : Int32) = ii 0 from rfl, m1, bn2_some, ok0, Option.bind_some, k_well, bn2_some]
  · rintro N - ⟨A2, b2⟩ ⟨t2, t3, -⟩
    dsimp only at t2 t3 ⊢
    obtain ⟨q', lw', hk', pa', sg', un', l5', l6', hR', p5', p6', hS', hs', hsn', hA1⟩ := t2.api
    have hk1 := hA1.2.2.1 F1 A2 f l a
    have c1 : ii (ρ 2) ≤ ii (ρ 2) := by
      rw [ii_le (by omega) (by omega)]
      omega
    rw [show (1 : Nat) = 0 + 1 from rfl, f_X1_season_L38, f_X1_season_L38]
    simp only [ok0, Option.bind_some, hk1, if_pos c1]
  · rintro N - p ⟨A2, b2⟩ p0 p1 ⟨t2, t3, t4⟩
    dsimp only at t2 t3 t4
    obtain ⟨q', lw', hk', pa', sg', un', l5', l6', hR', p5', p6', hS', hs', hsn', hA1⟩ := t2.api
    have hq := hR.pr p0 p1
    have hk1 := hA1.2.2.1 F1 A2 f l a
    obtain ⟨A3, v1, v2, v3⟩ := k_tOZ x F1 P1 A2 f l a b2 hR' hA1 (p := p) (n := 1) p0 p1 (by omega) (by omega)
    have e1 : A3 9 1 = sea ρ σ p := by
      rw [v2 1 (by omega) (by omega)]
      show bh ρ p (sgo ρ σ p p) (sgo ρ σ p (5 + p)) (ρ (13 + p)) (sgo ρ σ p 35 + ((0 : Nat) + 1)) 0 = sea ρ σ p
      unfold sgo sea
      rw [if_neg (by omega), if_neg (by omega), if_neg (by omega), if_pos ⟨p0, p1⟩]
      rfl
    have hsr := (sea_Rg hR h9).pr p0 p1
    obtain ⟨b3, s1, s2, s3⟩ := st_wS (x := x) hS' hs' p0 (by omega) (v := sea ρ σ p) (by omega) (by omega)
    have hgo : ∀ t, 0 ≤ t → t < 36 → sgo ρ σ (p + 1) t = su1 (sgo ρ σ p) p (sea ρ σ p) t := fun t t0 t1 => by
      unfold su1 sgo
      by_cases hc : t = p
      · rw [if_pos hc, if_pos (by omega), hc]
      · rw [if_neg hc]
        by_cases hc2 : 0 ≤ t ∧ t < p
        · rw [if_pos hc2, if_pos (by omega)]
        · rw [if_neg hc2, if_neg (by omega)]
    have s2' : Sg b3 pa' sg' (sgo ρ σ (p + 1)) := s2.cg (fun _ _ _ => rfl) hgo
    have hK3 := t2.st p5' p6' s3 s2' (sgo_Rg hR h9 (by omega) (by omega))
    have r1' : gR (hp x F1 P1 A3 f l a b2) (some sg') 13 1 = some (some (sg' + 1)) := hA1.2.2.2.2.2.2.2.2.2.2.2.2.2.2.2.2.2.2.2.2.2.2.2.2.2.1 F1 A3 f l a
    have eb := ii_b (a := sea ρ σ p) (by omega) (by omega)
    refine ⟨(A3, b3), ⟨hK3, (v3 0 (by omega)).trans t3, fun q hq => (s3 q (hq.st hS' hs' (t4 q hq))).trans (t4 q hq)⟩, ?_⟩
    dsimp only
    rw [f_X1_season_L38, ok0, Option.bind_some, hk1, Option.bind_some, if_neg (by rw [ii_le (by omega) (by omega)]; omega), Option.bind_some, show (1 : Int32) = ii 1 from rfl, v1, Option.bind_some, gkr6, Option.bind_some, p6', r1', Option.bind_some, gkr9, Option.bind_some, rk9 x F1 P1 A3 f l a b2 (by omega) (by omega), Option.bind_some, e1, eb, s1, Option.bind_some, ii_add]
theorem k_undo (x : Nat) (F : Nat → Int) (P : Nat → Option Nat) (A : Nat → Int → Int) (f l : Nat → Int) (a : Nat → Int → Int) (b : fk_M) {n : Nat} {g : Nat → Nat} {h : Int} {ρ τ σ U : Int → Int} {u : Nat} {K : Int → Int} {k : Nat} (hK : KI x n g F P b h ρ τ σ U u K k) : (u = 0 → f_X1_undo (some x) (hp x F P A f l a b) = some (ii 0, hp x (Fo F 6) P A f l a b)) ∧ (u ≠ 0 → h = 1 ∧ ∃ F' P' b', f_X1_undo (some x) (hp x F P A f l a b) = some (ii 1, hp x F' P' A f l a b') ∧ KI x n g F' P' b' 1 ρ τ (rw_ U (u - 1)) U (u - 1) K k ∧ F' 4 = 0 ∧ F' 3 = -1 ∧ F' 1 = F 1 ∧ F' 2 = F 2 ∧ ∀ q, Lw x b q → b' q = b q) := by
  have hK' := hK
  obtain ⟨⟨hf, hx, hg, hu, hk, h101, h111⟩, ep, cp, gp, ei, ci, gi, p100, p110, hLp, hLi, hne, hh⟩ := hK
  have e0 : (hp x F P A f l a b) = hp x (u1 (u1 F 100 (F 100)) 101 (u : Int)) (uP P 100 (some ep)) A f l a b := by
    rw [u1_self (F := F) (k := 100) rfl, u1_self h101, uP_self p100]
  have hem := (LH2 x F P A f l a b).emp (F 100) (some ep) (s := (u : Int)) b (by omega)
  try dsimp only at hem
  rw [← e0] at hem
  have hszz := (LH2 x F P A f l a b).sz (F 100) (some ep) (u : Int) b
  try dsimp only at hszz
  rw [← e0] at hszz
  unfold f_X1_undo
  rw [gkr7, Option.bind_some, ok2, Option.bind_some, hem, Option.bind_some]
  refine ⟨fun h0 => ?_, fun h0 => ?_⟩
  · subst h0
    rw [if_pos (show (((0 : Nat) : Int)) = 0 from rfl), if_neg (show ¬ ii 1 = 0 by decide), ok0, Option.bind_some, show (6 : Int32) = ii 6 from rfl, k_denied, bn2_some, if_pos (show ii 0 = 0 ∨ ii 0 = 1 from Or.inl rfl)]
  · rcases hh with hh | ⟨h1, hR, q, lw, hk', pa, sg, un, l4, l5, l6, e4, e6, ps, im, p5, p6, hG, hp4, hi4, ⟨hS, hsx⟩, hps, him, hdp, hdi⟩
    · omega
    refine ⟨h1, ?_⟩
    rcases hLp with ⟨-, -, h00, -⟩ | ⟨hc, hex, huc, hb⟩
    · omega
    have hr := (LH2 x F P A f l a b).remL (c := F 100) hb (Or.inr hex) huc (by omega) (by omega)
    rw [← e0] at hr
    obtain ⟨z1, z2, z3, z4, z5⟩ := hps (u - 1) (by omega)
    rw [z1, uP_self p100] at hr
    obtain ⟨b1, hb1⟩ : ∃ b1, b1 = fk_up b ep (aQ cp (va_up gp (u - 1) none)) := ⟨_, rfl⟩
    rw [← hb1] at hr
    have hq : ∀ q, q ≠ ep → b1 q = b q := fun q hq => by rw [hb1, up_ne _ _ hq]
    have hSt : ∀ {s : Nat} {R : Int → Int}, Sg b pa s R → Sg b1 pa s R := fun {s R} hs => hs.cg (fun q q1 q2 => hq q (hs.ne hb q q1 q2)) (fun _ _ _ => rfl)
    have z2' := hSt z2
    obtain ⟨Vz, vz, -⟩ := z2'.1
    obtain ⟨F1, hF1⟩ : ∃ F1, F1 = u1 (u1 F 100 (F 100 + 1)) 101 ((u : Int) - 1) := ⟨_, rfl⟩
    rw [← hF1] at hr
    have hF1k : ∀ j, j ≠ 100 → j ≠ 101 → F1 j = F j := fun j j1 j2 => by rw [hF1, u1_ne _ _ j2, u1_ne _ _ j1]
    refine ⟨Fo F1 0, uP P 6 (some (ps (u - 1))), b1, ?_, ?_, Fo_4 .., Fo_3 .., ((u1_ne _ _ (by omega)).trans (u1_ne _ _ (by omega))).trans (hF1k 1 (by omega) (by omega)), ((u1_ne _ _ (by omega)).trans (u1_ne _ _ (by omega))).trans (hF1k 2 (by omega) (by omega)), fun q hq' => hq q (hq'.ne hb (by omega))⟩
    · rw [if_neg (show ¬ (u : Int) = 0 by omega), if_pos (show ii 0 = 0 from rfl), Option.bind_some, Option.bind_some, ok2, Option.bind_some, hszz, Option.bind_some, Option.bind_some, show (1 : Int32) = ii 1 from rfl, ii_sub, hr, bn2_some, cst_of ((hp_out _ _ _ _ _ _ _ _ (Or.inr z4)).trans vz), Option.bind_some, pkr6, Option.bind_some, ok0, Option.bind_some, k_granted, bn2_some, if_pos (show ii 1 = 0 ∨ ii 1 = ii 1 from Or.inr rfl)]
    · have hu1 : ((u - 1 : Nat) : Int) = (u : Int) - 1 := by omega
      have hei : b1 ei = b ei := by
        by_cases h2 : ei = ep
        · rcases hLi with ⟨h3, h4, -⟩ | ⟨h3, -⟩
          · omega
          · exact absurd h2.symm (hne (by omega) (by omega))
        · exact hq ei h2
      have hG' := hG
      obtain ⟨-, ⟨V4, w4, c4', g4, -, -, -, a4, -⟩, -, ⟨V6, w6, c6, g6, -, -, -, d4, -⟩, -⟩ := hG'
      have h46 := hp4 (by omega)
      refine ⟨⟨fun q hqn => by
        rw [hq q (fun e => by
          have := hf q hqn
          rw [e, hb] at this
          cases this)]
        exact hf q hqn, hx, hg, by omega, hk, ?_, ?_⟩, ep, cp, va_up gp (u - 1) none, ei, ci, gi, ?_, ?_, Or.inr ⟨hc, hex, by omega, by rw [hb1, up_eq]⟩, hLi.cg hei, hne, Or.inr ⟨rfl, z3, q, lw, hk', pa, ps (u - 1), un, l4, l5, l6, e4, e6, ps, im, ?_, uP_eq .., hG.kp hR (fun a' w c _ ha hkd => ?_) (hq e4 (fun e => h46.1 e.symm)) (hq e6 (fun e => h46.2 e.symm)), hp4, hi4, ⟨z2', z4⟩, fun i hi => ?_, fun i hi => ?_, fun i j hi hj => hdp i j (by omega) (by omega), fun i j hi hj => hdi i j (by omega) hj⟩⟩
      · show u1 (u1 F1 4 0) 3 (-1) 101 = _
        rw [u1_ne _ _ (by omega), u1_ne _ _ (by omega), hF1, u1_eq, hu1]
      · show u1 (u1 F1 4 0) 3 (-1) 111 = _
        rw [u1_ne _ _ (by omega), u1_ne _ _ (by omega), hF1k 111 (by omega) (by omega)]
        exact h111
      · rw [uP_ne _ _ (by omega)]
        exact p100
      · rw [uP_ne _ _ (by omega)]
        exact p110
      · rw [uP_ne _ _ (by omega)]
        exact p5
      · rw [hq a' (fun e => by
          rw [e, hb] at ha
          cases ha
          exact hkd)]
        exact ha
      · obtain ⟨y1, y2, y3, y4, y5⟩ := hps i (by omega)
        refine ⟨?_, hSt y2, y3, y4, hdp (u - 1) i (by omega) (by omega) (by omega)⟩
        unfold va_up
        rw [if_neg (by omega)]
        exact y1
      · obtain ⟨y1, y2, y3, y4, y5⟩ := him i hi
        exact ⟨y1, hSt y2, y3, y4, hdi (u - 1) i (by omega) hi⟩
