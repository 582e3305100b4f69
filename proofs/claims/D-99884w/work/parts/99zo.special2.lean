/-! PLAIN 83: undo, image, back, pier, led -/
set_option maxRecDepth 100000
section STY
variable {x sc L n k : Nat} {xs : Nat → Int32} {g : Nat → Nat} {b0 m : fk_M} {i : Int} {R : Int32 → Nat → Nat → fk_M → Option (Int32 × Nat × Nat × fk_M)}
/-- an act that is done: how both sides stand behind it -/
theorem IV.nx {F F' : Nat → Int} {P P' : Nat → Option Nat} {A A' : Nat → Int → Int} {f f' : Nat → Int} {a a' : Nat → Int → Int} {b b' : fk_M} {u k u' k' n2 : Nat} {σ' U' K' : Int → Int} (h : IV x n g b0 F P A f a b u k) (h14 : f' 14 = 1) (e2 : KI x n2 g F' P' b' 1 (a 15) (a 17) σ' U' u' K' k') (e3 : F' 4 = 0 ∧ F' 3 = -1 ∧ F' 1 = F 1 ∧ F' 2 = F 2) (e4 : A' 0 = A 0) (e5 : ∀ q, Lw x b q → b' q = b q) (hu : f' 22 = u') (hk : f' 23 = k') (f2 : f' 2 = f 2) (f9 : f' 9 = f 9) (f11 : f' 11 = 0) (a1 : a' 1 = a 1) (a15 : a' 15 = a 15) (a17 : a' 17 = a 17) (a19 : ∀ t, 0 ≤ t → t < 36 → a' 19 t = σ' t) (a20 : ∀ i, i < u' → ∀ t, 0 ≤ t → t < 36 → rw_ (a' 20) i t = rw_ U' i t) (a21 : ∀ i, i < k' → ∀ t, 0 ≤ t → t < 36 → rw_ (a' 21) i t = rw_ K' i t) : IV x n2 g b0 F' P' A' f' a' b' u' k' := by
  obtain ⟨k1, ⟨k2, k3⟩, ⟨k4, k5, k6⟩, ⟨k7, k8, k9, k90⟩, k10, k11, j, k12⟩ := h
  obtain ⟨g4, g3, g1, g2⟩ := e3
  refine ⟨?_, ⟨hu, hk⟩, ⟨by omega, by omega, by omega⟩, ⟨by omega, by omega, ?_, by omega⟩, fun t t0 t1 => ?_, fun q hq => (e5 q (Or.inl hq)).trans (k11 q hq), j, (e5 (x + 24) (Or.inr ⟨by omega, _, _, _, k12⟩)).trans k12⟩
  · rw [h14, a15, a17]
    exact e2.cg a19 a20 a21
  · rw [f11, if_neg (by omega)]
    exact g3
  · rw [g1] at t1
    rw [e4, a1]
    exact k10 t t0 t1
theorem Low.fr {b b' : fk_M} (h : Low x b0 b) (e5 : ∀ q, Lw x b q → b' q = b q) : Low x b0 b' := fun q hq => (e5 q (Or.inl hq)).trans (h q hq)
theorem t_1980 (hI : Inv x n g b0 m) (x0 x3 : Option Nat) : Gz x g b0 R i n k (f_L_law_J1980 g R x0 (some x) (some (x + 8)) x3 (ii i) n k m) := by
  obtain ⟨F, P, A, f, l, a, b, u, kk, rfl, hI⟩ := hI
  have ks := k_undo x F P A f l a b hI.1
  have ms := fun F P A b => m_undo x F P A f l a b hI.uk.1 hI.2.1.1
  unfold f_L_law_J1980 f_L_law_J2125
  by_cases h0 : u = 0
  · have e1 := ks.1 h0
    have e2 := (ms (Fo F 6) P A b).1 h0
    refine ⟨n, k, _, ?_, ⟨Fo F 6, P, A, fo f 6, l, a, b, u, kk, rfl, hI.q ⟨rfl, rfl, rfl, rfl, rfl, rfl⟩ (Fo_4 ..) (Fo_3 ..) rfl (u1_eq ..) ⟨rfl, rfl, rfl, rfl, rfl, rfl⟩ ⟨rfl, rfl, rfl, rfl, rfl, rfl⟩ (by omega)⟩, by omega⟩
    simp only [e1, e2, ok0, ok1, Option.bind_some, bn2_some, if_true]
  · obtain ⟨h14, F', P', b', e1, e2, e3, e4, e5, e6, e7⟩ := ks.2 h0
    obtain ⟨a', p1, p2, p3⟩ := (ms F' P' A b').2 h0
    refine ⟨n, k, _, ?_, ⟨F', P', A, _, l, a', b', u - 1, kk, rfl, hI.nx (f' := u1 (fo f 0) 22 ((u : Int) - 1)) (a' := a') h14 e2 ⟨e3, e4, e5, e6⟩ rfl e7 ?_ hI.2.1.2 rfl rfl rfl (p2 1 (by omega)) (p2 15 (by omega)) (p2 17 (by omega)) p3 (fun i hi t t0 t1 => by rw [p2 20 (by omega)]) (fun i hi t t0 t1 => by rw [p2 21 (by omega)])⟩, by omega⟩
    · simp only [e1, p1, ok0, ok1, Option.bind_some, bn2_some, if_true]
    · rw [u1_eq]
      omega
theorem t_1993 (hI : Inv x n g b0 m) (x0 x3 : Option Nat) : Gz x g b0 R i n k (f_L_law_J1993 g R x0 (some x) (some (x + 8)) x3 (ii i) n k m) := by
  obtain ⟨F, P, A, f, l, a, b, u, kk, rfl, hI⟩ := hI
  obtain ⟨K', hN⟩ := Nk.ex (a 21) (a 19) kk
  have ks := k_image x F P A f l a b (kk := k) (K' := K') hI.1
  have ms := fun F P A b => m_image x F P A f l a b hI.uk.2.1 hI.2.1.2 hI.hm
  unfold f_L_law_J1993 f_L_law_J2125
  by_cases hw : w_image (f 14) kk = 0
  · have h14 : f 14 = 1 := by
      unfold w_image at hw
      by_cases hc : f 14 = 1
      · exact hc
      · rw [if_neg hc] at hw
        omega
    obtain ⟨F', P', A', b', n', k', e1, e2, ⟨e3, e4, e5, e6, e7⟩, e8, e9, e10, e11, e12⟩ := ks.2 hw hN
    obtain ⟨a', p1, p2, p3⟩ := (ms F' P' A' b').2 hw
    refine ⟨n', k', _, ?_, ⟨F', P', A', _, l, a', b', u, kk + 1, rfl, hI.nx (f' := u1 (fo f 0) 23 ((kk : Int) + 1)) (a' := a') h14 e2 ⟨e3, e4, e5, e6⟩ e7 e12 hI.2.1.1 ?_ rfl rfl rfl (p2 1 (by omega)) (p2 15 (by omega)) (p2 17 (by omega)) (fun t t0 t1 => by rw [p2 19 (by omega)]) (fun i hi t t0 t1 => by rw [p2 20 (by omega)]) (fun i hi t t0 t1 => Nk.eq p3 hN i hi t t0 t1)⟩, by omega⟩
    · simp only [e1, p1, ok0, ok1, Option.bind_some, bn2_some, bn4_some, if_true]
    · rw [u1_eq]
      rfl
  · obtain ⟨m1, m2, e1, e3, e4, e5, e6⟩ := hI.ar (ks.1 hw) (M := f_X2_image (some (x + 8))) (fun F => (ms F P A b).1 hw) (wi_ok _ _)
    refine ⟨n, k, m2, ?_, e6, by omega⟩
    simp only [e1, e3, e5, ok0, Option.bind_some, bn2_some, bn4_some, if_true]
theorem t_2006 (hS : Sc x sc L xs b0) (hI : Inv x n g b0 m) (i0 : 0 ≤ i) (i1 : i + 6 ≤ L) (x3 : Option Nat) : Gz x g b0 R i n k (f_L_law_J2006 g R (some sc) (some x) (some (x + 8)) x3 (ii i) n k m) := by
  obtain ⟨F, P, A, f, l, a, b, u, kk, rfl, hI⟩ := hI
  obtain ⟨s1, s2, s3, s4, s5, hr, hA⟩ := hS.five i0 i1
  obtain ⟨a1, a2, a3, a4, a5⟩ := hA _ (hI.low.hp F P A f l a)
  have ks := k_back x F P A f l a b (kk := k) hI.1 (i := s1) hr.1
  have ms := fun F P A b => m_back x F P A f l a b hI.uk.2.1 hI.2.1.2 (i := s1) hr.1
  unfold f_L_law_J2006 f_L_law_J2125
  by_cases hc : 0 ≤ s1 ∧ s1 ≤ (kk : Int) - 1
  · obtain ⟨h14, F', P', A', b', n', k', e1, e2, ⟨e3, e4, e5, e6, e7⟩, e8, e9, e10, e11, e12⟩ := ks.2 hc
    obtain ⟨a', p1, p2, p3⟩ := (ms F' P' A' b').2 hc
    obtain ⟨c1, c2, c3, c4, c5⟩ := hA _ ((hI.low.fr e12).hp F' P' A' f l a)
    refine ⟨n', k', _, ?_, ⟨F', P', A', _, l, a', b', 0, kk, rfl, hI.nx (f' := u1 (fo f 0) 22 0) (a' := a') h14 e2 ⟨e3, e4, e5, e6⟩ e7 e12 rfl hI.2.1.2 rfl rfl rfl (p2 1 (by omega)) (p2 15 (by omega)) (p2 17 (by omega)) p3 (fun i hi => by omega) (fun i hi t t0 t1 => by rw [p2 21 (by omega)])⟩, by omega⟩
    simp only [a1, c1, e1, p1, ok0, ok1, Option.bind_some, bn2_some, bn4_some, if_true]
  · obtain ⟨m1, m2, e1, e3, e4, e5, e6⟩ := hI.ar (ks.1 hc) (M := f_X2_back (some (x + 8)) (ii s1)) (fun F => MO.of ((ms F P A b).1 hc)) (by omega)
    obtain ⟨c1, c2, c3, c4, c5⟩ := hA _ e4
    refine ⟨n, k, m2, ?_, e6, by omega⟩
    simp only [a1, c1, e1, e3, e5, ok0, Option.bind_some, bn2_some, bn4_some, if_true]
theorem t_365 (hB : B0 x g b0) (hS : Sc x sc L xs b0) (hI : Inv x n g b0 m) (i0 : 0 ≤ i) (i1 : i + 6 ≤ L) (x3 : Option Nat) : Gz x g b0 R i n k (f_L_law_J365 g R (some sc) (some x) (some (x + 8)) x3 (ii i) n k m) := by
  obtain ⟨F, P, A, f, l, a, b, u, kk, rfl, hI⟩ := hI
  obtain ⟨s1, s2, s3, s4, s5, hr, hA⟩ := hS.five i0 i1
  obtain ⟨a1, a2, a3, a4, a5⟩ := hA _ (hI.low.hp F P A f l a)
  have hlow := hI.low
  have hI0 := hI
  obtain ⟨k1, ⟨k2, k3⟩, ⟨k4, k5, k6⟩, ⟨k7, k8, k9, k90⟩, k10, k11, j, k12⟩ := hI
  obtain ⟨hB1, hB2, hB3, w4, gl4, hB4⟩ := hB
  have kp := k_pier x F P A f l a b (kk := k) (T := a 1) k1 (hB1 b hlow) (fun q hq c hh => hB2 q hq c (by rw [← hlow q hq]; exact hh)) ⟨w4, gl4, (hlow _ hB3).trans hB4⟩ ⟨k4, k5⟩ (fun t t0 t1 => (k10 t t0 t1).1) (fun t t0 t1 => (k10 t t0 t1).2) (m := s1) hr.1
  have h2 : 0 ≤ f 2 ∧ f 2 ≤ 900 := by omega
  have hT : ∀ t, 0 ≤ t → t < f 2 → 0 ≤ a 1 t ∧ a 1 t ≤ 255 := fun t t0 t1 => (k10 t t0 (by omega)).2
  unfold f_L_law_J365 f_L_law_J2125
  by_cases hc : 0 ≤ s1 ∧ s1 ≤ F 1
  · have hc2 : 0 ≤ s1 ∧ s1 ≤ f 2 := by omega
    obtain ⟨v, n', k', F', P', b', e1, e2, e3, -⟩ := kp.2 hc (fun _ => 0) (fun _ => 0) ⟨fun _ _ _ => rfl, fun _ _ _ => rfl⟩
    have hlow' : Low x b0 b' := hlow.fr e3
    obtain ⟨φ, ψ, v', f', a', hz, p1, p2⟩ := (m_pier x F' P' A f l a b' g (hB1 b' hlow') hr.1 h2 hT).2 hc2
    obtain ⟨v1, n1, q1, F1, P1, b1, d1, d2, d3, d4, d5⟩ := kp.2 hc φ ψ hz
    have he := Option.some.inj (e1.symm.trans d1)
    have hv : ii v = ii v1 := (Prod.mk.inj he).1
    have hn : n' = n1 := (Prod.mk.inj (Prod.mk.inj he).2).1
    have hq : k' = q1 := (Prod.mk.inj (Prod.mk.inj (Prod.mk.inj he).2).2).1
    have hm : hp x F' P' A f l a b' = hp x F1 P1 A f l a b1 := (Prod.mk.inj (Prod.mk.inj (Prod.mk.inj he).2).2).2
    have hsw := hp_sw hm f' l a'
    obtain ⟨c1, c2, c3, c4, c5⟩ := hA _ (hlow'.hp F' P' A f l a)
    subst hn
    subst hq
    rw [hsw] at p1
    have hout : b1 (x + 24) = some (true, aJ 1 j) := (d3 (x + 24) (Or.inr ⟨by omega, _, _, _, k12⟩)).trans k12
    have hvv : v1 = v' ∧ Inv x n' g b0 (hp x F1 P1 A f' l a' b1) := by
      rcases hr' : aAll (a 1) s1 φ ψ with e | s
      · rw [hr'] at p2 d5
        obtain ⟨y1, ⟨y2, y3, y4, y5, y6, y7, y8, y9⟩, y10⟩ := p2
        obtain ⟨z1, ⟨z2, z3, z4⟩, z5⟩ := d5
        refine ⟨by omega, F1, P1, A, f', l, a', b1, u, kk, rfl, ?_, ⟨by omega, by omega⟩, ⟨by omega, by omega, by omega⟩, ⟨by omega, by omega, ?_, by omega⟩, fun t t0 t1 => by omega, hlow.fr d3, j, hout⟩
        · rw [y7, y10 15 (by omega) (by omega) (by omega), y10 17 (by omega) (by omega) (by omega), y10 19 (by omega) (by omega) (by omega), y10 20 (by omega) (by omega) (by omega), y10 21 (by omega) (by omega) (by omega)]
          exact z5
        · rw [if_pos y3]
          omega
      · rw [hr'] at p2 d5
        obtain ⟨y1, ⟨y2, y3, y4, y5, y6, y7, y8⟩, y9, y10, y11, y12⟩ := p2
        obtain ⟨z1, ⟨z2, z3, z4⟩, z5⟩ := d5
        refine ⟨by omega, F1, P1, A, f', l, a', b1, 0, 0, rfl, ?_, ⟨by omega, by omega⟩, ⟨by omega, by omega, by omega⟩, ⟨by omega, by omega, ?_, by omega⟩, fun t t0 t1 => by omega, hlow.fr d3, j, hout⟩
        · rw [y6]
          exact (z5 (a' 20) (a' 21)).cgr y10 y11 y12
        · rw [if_neg (by omega)]
          exact z4
    refine ⟨n', k', _, ?_, hvv.2, by omega⟩
    simp only [a1, c1, e1, p1, ok0, ok1, Option.bind_some, bn2_some, bn4_some, hv, hvv.1, if_true]
  · have e1 := kp.1 hc
    have e2 := (m_pier x (Fo F 2) P A f l a b g (hB1 b hlow) hr.1 h2 hT).1 (by omega)
    obtain ⟨c1, c2, c3, c4, c5⟩ := hA _ (hlow.hp (Fo F 2) P A f l a)
    refine ⟨n, k, _, ?_, ⟨Fo F 2, P, A, fo f 2, l, a, b, u, kk, rfl, hI0.q ⟨rfl, rfl, rfl, rfl, rfl, rfl⟩ (Fo_4 ..) (Fo_3 ..) rfl (u1_eq ..) ⟨rfl, rfl, rfl, rfl, rfl, rfl⟩ ⟨rfl, rfl, rfl, rfl, rfl, rfl⟩ (by omega)⟩, by omega⟩
    simp only [a1, c1, e1, e2, ok0, ok1, Option.bind_some, bn2_some, bn4_some, if_true]
/-! led -/
def ldr (ρ σ : Int → Int) (i : Int) : Nat → Int → Int → Option Int
  | 0, _, _ => none
  | d + 1, c, p => if ρ 0 < 2 * σ p then (if c = i then some p else ldr ρ σ i d (c + 1) (p + 1)) else ldr ρ σ i d c (p + 1)
def s_led (h : Int) (ρ σ : Int → Int) (i : Int) : Option Int := if h = 1 then ldr ρ σ i (ρ 2).toNat 0 0 else none
theorem m_led (x : Nat) (F : Nat → Int) (P : Nat → Option Nat) (A : Nat → Int → Int) (f l : Nat → Int) (a : Nat → Int → Int) (b : fk_M) {w : Int} (hw : rg w) (hM : Hm f a) : f_X2_led (some (x + 8)) (ii w) (hp x F P A f l a b) = (match s_led (f 14) (a 15) (a 19) w with | some v => some (ii v, hp x F P A (u1 f 0 0) l a b) | none => some (0, hp x F P A (u1 f 0 1) l a b)) := by
  unfold f_X2_led s_led
  have j58 : f_X2_led_J58 (some (x + 8)) (hp x F P A f l a b) = some (0, hp x F P A (u1 f 0 1) l a b) := by
    unfold f_X2_led_J58
    rw [show tI (1 : Int32) = tI (ii 1) from rfl, pm0, Option.bind_some]
  rcases hM with h | ⟨h, hR⟩
  · rw [show fk_fuel = 3999 + 1 from rfl, f_X2_led_L4, gm14, Option.bind_some, h, if_pos (show ii 0 = 0 from rfl), j58, if_neg (by omega)]
  · have hwd := hR.wd
    rw [if_pos h]
    have hL : ∀ (d N : Nat) (c p : Int), 0 ≤ c → c ≤ p → p + d = a 15 2 → d < N → f_X2_led_L4 (some (x + 8)) (ii w) (hp x F P A f l a b) N (ii c) (ii p) = (match ldr (a 15) (a 19) w d c p with | some v => some (ii v, hp x F P A (u1 f 0 0) l a b) | none => some (0, hp x F P A (u1 f 0 1) l a b)) := by
      intro d
      induction d with
      | zero =>
        intro N c p c0 c1 h1 h2
        obtain ⟨N, rfl⟩ : ∃ M, N = M + 1 := ⟨N - 1, by omega⟩
        rw [f_X2_led_L4, gm14, Option.bind_some, h, if_neg (show ¬ ii 1 = 0 by decide), gm15, Option.bind_some, show (2 : Int32) = ii 2 from rfl, rm15 x F P A f l a b (by omega) (by omega), Option.bind_some, if_pos (by rw [ii_le (by omega) (by omega)]; omega), j58]
        rfl
      | succ d ih =>
        intro N c p c0 c1 h1 h2
        obtain ⟨N, rfl⟩ : ∃ M, N = M + 1 := ⟨N - 1, by omega⟩
        have hq := hR.pr (p := p) (by omega) (by omega)
        have e1 : ∀ z : Int, ii z + 1 = ii (z + 1) := fun z => by rw [show (1 : Int32) = ii 1 from rfl, ii_add]
        rw [f_X2_led_L4, gm14, Option.bind_some, h, if_neg (show ¬ ii 1 = 0 by decide), gm15, Option.bind_some, show (2 : Int32) = ii 2 from rfl, rm15 x F P A f l a b (by omega) (by omega), Option.bind_some, if_neg (by rw [ii_le (by omega) (by omega)]; omega), gm19, Option.bind_some, rm19 x F P A f l a b (by omega) (by omega), Option.bind_some, ok1, Option.bind_some, m_isMore x F P A f l a b (by omega) (by omega) (by omega) (by omega), Option.bind_some]
        show _ = (match (if a 15 0 < 2 * a 19 p then (if c = w then some p else ldr (a 15) (a 19) w d (c + 1) (p + 1)) else ldr (a 15) (a 19) w d c (p + 1)) with | some v => some (ii v, hp x F P A (u1 f 0 0) l a b) | none => some (0, hp x F P A (u1 f 0 1) l a b))
        unfold f_X2_led_J52
        by_cases hm : a 15 0 < 2 * a 19 p
        · rw [if_pos hm, if_pos hm, if_neg (show ¬ ii 1 = 0 by decide)]
          by_cases hc : c = w
          · rw [if_pos hc, if_pos (show ii c = ii w by rw [hc]), show tI (0 : Int32) = tI (ii 0) from rfl, pm0, Option.bind_some]
          · rw [if_neg hc, if_neg (show ¬ ii c = ii w by rw [ii_eq (by omega) hw]; exact hc), e1, e1]
            exact ih N (c + 1) (p + 1) (by omega) (by omega) (by omega) (by omega)
        · rw [if_neg hm, if_neg hm, if_pos (show ii 0 = 0 from rfl), e1]
          exact ih N c (p + 1) (by omega) (by omega) (by omega) (by omega)
    exact hL (a 15 2).toNat fk_fuel 0 0 (by omega) (by omega) (by omega) (by unfold fk_fuel; omega)
theorem k_led (x : Nat) (F : Nat → Int) (P : Nat → Option Nat) (A : Nat → Int → Int) (f l : Nat → Int) (a : Nat → Int → Int) (b : fk_M) {h : Int} {ρ τ σ : Int → Int} (hK : Kq x P b h ρ τ σ) {w : Int} (hw : rg w) : f_X1_led (some x) (ii w) (hp x F P A f l a b) = (s_led h ρ σ w).map ii ∧ f_X1_ledT (some x) (ii w) (hp x F P A f l a b) = (match s_led h ρ σ w with | some _ => none | none => some ()) := by
  unfold f_X1_led f_X1_ledT s_led
  by_cases h1 : h = 1
  rotate_left
  · have hn := k_none hK h1
    rw [if_neg h1, show fk_fuel = 3999 + 1 from rfl, f_X1_led_L4, f_X1_ledT_L4, gkr5, Option.bind_some, Option.bind_some, hn, if_pos rfl, if_pos rfl]
    exact ⟨rfl, rfl⟩
  rw [if_pos h1]
  obtain ⟨hh, -⟩ | ⟨-, hR, q, lw, hk, pa, sg, un, l5, l6, s1, s2, s3, hA⟩ := hK
  · omega
  have hwd := hR.wd
  have hA' := hA
  obtain ⟨KP5, KP6, K1, K2, K3, K4, K5, K6, K7, K8, K9, K10, K11, K12, K13, K14, K15, K16, K17, K18, K19, K20, K21, K22, K23, K24, K25, K26, K27, K28, K29, K30, K31⟩ := hA
  have hL : ∀ (d N : Nat) (c p : Int), 0 ≤ c → c ≤ p → p + d = ρ 2 → d < N → f_X1_led_L4 (some x) (ii w) (hp x F P A f l a b) N (ii c) (ii p) = (ldr ρ σ w d c p).map ii ∧ f_X1_ledT_L4 (some x) (ii w) (hp x F P A f l a b) N (ii c) (ii p) = (match ldr ρ σ w d c p with | some _ => none | none => some ()) := by
    intro d
    induction d with
    | zero =>
      intro N c p c0 c1 g1 g2
      obtain ⟨N, rfl⟩ : ∃ M, N = M + 1 := ⟨N - 1, by omega⟩
      rw [f_X1_led_L4, f_X1_ledT_L4, gkr5, Option.bind_some, Option.bind_some, KP5, if_neg (show ¬ some pa = none from fun h => by cases h), if_neg (show ¬ some pa = none from fun h => by cases h), ok0, Option.bind_some, Option.bind_some, K1, Option.bind_some, Option.bind_some, if_pos (show ii (ρ 2) ≤ ii p by rw [ii_le (by omega) (by omega)]; omega), if_pos (show ii (ρ 2) ≤ ii p by rw [ii_le (by omega) (by omega)]; omega)]
      exact ⟨rfl, rfl⟩
    | succ d ih =>
      intro N c p c0 c1 g1 g2
      obtain ⟨N, rfl⟩ : ∃ M, N = M + 1 := ⟨N - 1, by omega⟩
      have hq := hR.pr (p := p) (by omega) (by omega)
      have e1 : ∀ z : Int, ii z + 1 = ii (z + 1) := fun z => by rw [show (1 : Int32) = ii 1 from rfl, ii_add]
      have e2 := K24 F A f l a
      have e3 := K28 F A f l a p (by omega) (by omega)
      have e4 := k_isMore x F P A f l a b hR hA' (v := σ p) (by omega) (by omega)
      rw [f_X1_led_L4, f_X1_ledT_L4, gkr5, Option.bind_some, Option.bind_some, KP5, if_neg (show ¬ some pa = none from fun h => by cases h), if_neg (show ¬ some pa = none from fun h => by cases h), ok0, Option.bind_some, Option.bind_some, K1, Option.bind_some, Option.bind_some, if_neg (show ¬ ii (ρ 2) ≤ ii p by rw [ii_le (by omega) (by omega)]; omega), if_neg (show ¬ ii (ρ 2) ≤ ii p by rw [ii_le (by omega) (by omega)]; omega), gkr6, Option.bind_some, Option.bind_some, KP6, e2, Option.bind_some, Option.bind_some, e3, Option.bind_some, Option.bind_some, Option.bind_some, Option.bind_some, e4, Option.bind_some, Option.bind_some]
      show _ = (if ρ 0 < 2 * σ p then (if c = w then some p else ldr ρ σ w d (c + 1) (p + 1)) else ldr ρ σ w d c (p + 1)).map ii ∧ _ = (match (if ρ 0 < 2 * σ p then (if c = w then some p else ldr ρ σ w d (c + 1) (p + 1)) else ldr ρ σ w d c (p + 1)) with | some _ => none | none => some ())
      unfold f_X1_led_J48 f_X1_ledT_J48
      by_cases hm : ρ 0 < 2 * σ p
      · rw [if_pos hm, if_pos hm, if_neg (show ¬ ii 1 = 0 by decide), if_neg (show ¬ ii 1 = 0 by decide)]
        by_cases hc : c = w
        · rw [if_pos hc, if_pos (show ii c = ii w by rw [hc]), if_pos (show ii c = ii w by rw [hc])]
          exact ⟨rfl, rfl⟩
        · rw [if_neg hc, if_neg (show ¬ ii c = ii w by rw [ii_eq (by omega) hw]; exact hc), if_neg (show ¬ ii c = ii w by rw [ii_eq (by omega) hw]; exact hc), e1, e1]
          exact ih N (c + 1) (p + 1) (by omega) (by omega) (by omega) (by omega)
      · rw [if_neg hm, if_neg hm, if_pos (show ii 0 = 0 from rfl), if_pos (show ii 0 = 0 from rfl), e1]
        exact ih N c (p + 1) (by omega) (by omega) (by omega) (by omega)
  exact hL (ρ 2).toNat fk_fuel 0 0 (by omega) (by omega) (by omega) (by unfold fk_fuel; omega)
theorem t_2031 (hS : Sc x sc L xs b0) (hI : Inv x n g b0 m) (i0 : 0 ≤ i) (i1 : i + 6 ≤ L) : Gz x g b0 R i n k (f_L_law_J2031 g R (some sc) (some x) (some (x + 8)) (some (x + 24)) (ii i) n k m) := by
  obtain ⟨F, P, A, f, l, a, b, u, kk, rfl, hI⟩ := hI
  obtain ⟨s1, s2, s3, s4, s5, hr, hA⟩ := hS.five i0 i1
  obtain ⟨a1, a2, a3, a4, a5⟩ := hA _ (hI.low.hp F P A f l a)
  obtain ⟨e1, e2⟩ := k_led x F P A f l a b hI.1.kq (w := s1) hr.1
  have huk := hI.uk
  have ms := fun b => m_led x F P A f l a b (w := s1) hr.1 hI.hm
  unfold f_L_law_J2031 f_L_law_J2084 f_L_law_J2125 f_X0_led f_X2_thrown
  rcases hs : s_led (f 14) (a 15) (a 19) s1 with _ | v
  · rw [hs] at e1 e2
    have ms := ms b
    rw [hs] at ms
    have ms : f_X2_led (some (x + 8)) (ii s1) (hp x F P A f l a b) = some (0, hp x F P A (u1 f 0 1) l a b) := ms
    have e2 : f_X1_ledT (some x) (ii s1) (hp x F P A f l a b) = some () := e2
    refine ⟨n + 1, k + 6, _, ?_, ⟨F, P, A, u1 f 0 1, l, a, b, u, kk, rfl, ?_⟩, by omega⟩
    · simp only [a1, e2, ms, ok0, ok1, gm0, u1_eq, Option.bind_some, bn2_some, bn4_some, if_true, show ii 1 = 1 from rfl, show ¬ ((1 : Int32) = 0) by decide, if_false]
    · obtain ⟨⟨⟨q1, q2, q3⟩, q4⟩, q5⟩ := hI.f0 1
      exact ⟨⟨⟨fun q hq => q1 q (by omega), by omega, q3⟩, q4⟩, q5⟩
  · rw [hs] at e1 e2
    have e1 : f_X1_led (some x) (ii s1) (hp x F P A f l a b) = some (ii v) := e1
    have e2 : f_X1_ledT (some x) (ii s1) (hp x F P A f l a b) = none := e2
    obtain ⟨k1, k2, k3, k4, k5, k6, j, k7⟩ := hI
    have hx : (hp x F P A f l a b) (x + 24) = some (true, aJ 1 j) := (hp_out _ _ _ _ _ _ _ _ (Or.inr (by omega))).trans k7
    obtain ⟨j', hj'⟩ : ∃ j', j' = vp_updL j (0 : Int32).toNatClampNeg (Int32.toInt64 (ii v)) := ⟨_, rfl⟩
    have hj0 : j' 0 = Int32.toInt64 (ii v) := by
      rw [hj']
      rfl
    have hst : sL (hp x F P A f l a b) (some (x + 24)) 0 (Int32.toInt64 (ii v)) = some (hp x F P A f l a (fk_up b (x + 24) (aJ 1 j'))) := by
      unfold sL
      simp only [hx]
      rw [if_neg (by decide), hp_bu _ _ _ _ _ _ _ _ _ (Or.inr (by omega)), hj']
    obtain ⟨b', hb'⟩ : ∃ b', b' = fk_up b (x + 24) (aJ 1 j') := ⟨_, rfl⟩
    rw [← hb'] at hst
    have hbn : ∀ q, q ≠ x + 24 → b' q = b q := fun q hq => by rw [hb', up_ne _ _ hq]
    have hb24 : b' (x + 24) = some (true, aJ 1 j') := by rw [hb', up_eq]
    have hlow' : Low x b0 b' := fun q hq => (hbn q (by omega)).trans (k6 q hq)
    obtain ⟨c1, c2, c3, c4, c5⟩ := hA _ (hlow'.hp F P A f l a)
    have hn24 : x + 24 < n := by
      by_cases hcc : x + 24 < n
      · exact hcc
      · rw [huk.2.2.2 _ (by omega)] at k7
        cases k7
    have ms := ms b'
    rw [hs] at ms
    have ms : f_X2_led (some (x + 8)) (ii s1) (hp x F P A f l a b') = some (ii v, hp x F P A (u1 f 0 0) l a b') := ms
    have hal : aL (hp x F P A (u1 f 0 0) l a b') (some (x + 24)) 0 = some (Int32.toInt64 (ii v)) := by
      have hx' : hp x F P A (u1 f 0 0) l a b' (x + 24) = some (true, aJ 1 j') := (hp_out _ _ _ _ _ _ _ _ (Or.inr (by omega))).trans hb24
      unfold aL
      simp only [hx']
      rw [if_neg (by decide), ← hj0]
      rfl
    refine ⟨n, k, _, ?_, ⟨F, P, A, u1 f 0 0, l, a, b', u, kk, rfl, ?_⟩, by omega⟩
    · simp only [a1, c1, e1, e2, hst, ms, hal, ok0, ok1, gm0, u1_eq, Option.bind_some, bn2_some, bn4_some, if_true, cmp_self, show ii 0 = 0 from rfl, show ¬ ((none : Option Unit) = some ()) from fun h => (by cases h), if_false]
    · have hIV : IV x n g b0 F P A f a b' u kk := ⟨k1.lb (fun q w c ho hq h1 h2 => (hbn q (fun e => by rw [e, k7] at hq; cases hq; exact h2 rfl)).trans hq) (fun q hq => (hbn q (by omega)).trans (huk.2.2.2 q hq)) (Nat.le_refl n), k2, k3, k4, k5, hlow', j', hb24⟩
      exact hIV.f0 0
end STY
