/-! PLAIN 41: the model's lines: unsure and heard ones -/
set_option maxRecDepth 100000
abbrev isUk (φ : Int → Int) (p : Int) (k : Nat) : Prop := ∃ j : Fin 4, k ≤ j.val ∧ (j.val : Int) < φ 5 ∧ φ (18 + 2 * (j.val : Int)) = p
theorem m_uns27 (x : Nat) (F : Nat → Int) (P : Nat → Option Nat) (A : Nat → Int → Int) (f l : Nat → Int) (a : Nat → Int → Int) (b : fk_M) (g : Nat → Nat) (hT : Tx8 (a 1) (f 3)) (hW : Wf (a 16) (a 18)) (h5 : a 16 5 < 4) (z0 : Int32) {p : Int} : ∀ (d N k : Nat) (r : Except Er Tkn) (f' : Nat → Int), (k : Int) + d = a 16 5 → d < N → FrF f f' → MS (f 3) f' a r → (∀ t, r = .ok t → z0 = ii p ∧ 0 ≤ p ∧ p < 5) → ∃ f2 a2, f_X2_unsureLine_L27 g (some (x + 8)) (ii (18 + 2 * a 16 5)) z0 N (ii k) (hp x F P A f' l a b) = some (hp x F P A f2 l a2 b) ∧ MP (f 3) f2 a2 (r.bind fun t => if isUk (a 16) p k then .error (3, t.2.1) else (aWh (a 1) (f 3) 0 20 (aOn (a 1) (f 3) t)).bind fun v => .ok (v.2, su1 (su1 (su1 (a 16) (18 + 2 * a 16 5) p) (18 + 2 * a 16 5 + 1) v.1) 5 (a 16 5 + 1), a 18)) ∧ FrF f f2 ∧ FrA a a2 := by
  have hu := hW.2.2.2.2.2.2.1
  intro d
  induction d with
  | zero =>
    intro N k r f' h1 h2 h3 hM hp'
    obtain ⟨N, rfl⟩ : ∃ M, N = M + 1 := ⟨N - 1, by omega⟩
    have e3 := h3.e3
    obtain ⟨f1, a1, f4, a4, z, g1, k1, k2, hfr, hfa⟩ := m_pN x F P A f' l a b (by rw [e3]; exact hT) (by rw [e3]; exact hM) (lo := 0) (hi := 20) (by omega) (by omega)
    rw [e3] at k2
    obtain ⟨v, rfl, k5, k6⟩ := k2.pk
    have hno : ¬ isUk (a 16) p k := by
      rintro ⟨j, j1, j2, -⟩
      omega
    rw [f_X2_unsureLine_L27, gm16, Option.bind_some, show (5 : Int32) = ii 5 from rfl, rm16 x F P A f' l a b (by omega) (by omega), Option.bind_some, if_pos (by rw [ii_le (by omega) (by omega)]; omega), ok1, Option.bind_some, g1, Option.bind_some, ok1, Option.bind_some, show (0 : Int32) = ii 0 from rfl, show (20 : Int32) = ii 20 from rfl, k1, bn2_some, gm13, Option.bind_some]
    have hbad : ∀ e : Er, f4 13 = 1 ∧ f4 9 = e.1 ∧ f4 10 = e.2 → ∃ f2 a2, (if ii (f4 13) = ii 0 then ((gR (hp x F P A f4 l a4 b) (some (x + 8)) 1 16).bind fun z9 => (sI (hp x F P A f4 l a4 b) z9 0 (ii (18 + 2 * a 16 5)) z0).bind fun m10 => (gR m10 (some (x + 8)) 1 16).bind fun z11 => (sI m10 z11 0 (ii (18 + 2 * a 16 5) + 1) (ii v)).bind fun m12 => (gR m12 (some (x + 8)) 1 16).bind fun z13 => (aI m12 z13 0 (ii 5)).bind fun z14 => (sI m12 z13 0 (ii 5) (z14 + 1)).bind fun m15 => some m15) else (some (hp x F P A f4 l a4 b))) = some (hp x F P A f2 l a2 b) ∧ MP (f 3) f2 a2 (.error e) ∧ FrF f f2 ∧ FrA a a2 := by
      intro e he
      refine ⟨f4, a4, ?_, he, h3.tr hfr, fun j j1 _ _ => hfa j j1⟩
      rw [he.1, if_neg (show ¬ ii 1 = ii 0 by decide)]
    rcases r with e | t
    · exact hbad e (k6 e rfl)
    · obtain ⟨rfl, p0, p1⟩ := hp' t rfl
      show ∃ f2 a2, _ ∧ MP (f 3) f2 a2 (if isUk (a 16) p k then _ else _) ∧ _
      rw [if_neg hno]
      have k5 : ∀ t', aWh (a 1) (f 3) 0 20 (aOn (a 1) (f 3) t) = .ok t' → t'.1 = v ∧ f4 13 = 0 ∧ TokM f4 a4 t'.2 ∧ Tok8 (f 3) t'.2 := k5
      have k6 : ∀ e, aWh (a 1) (f 3) 0 20 (aOn (a 1) (f 3) t) = .error e → f4 13 = 1 ∧ f4 9 = e.1 ∧ f4 10 = e.2 := k6
      rcases hw : aWh (a 1) (f 3) 0 20 (aOn (a 1) (f 3) t) with e | u
      · exact hbad e (k6 e hw)
      · obtain ⟨m1, m2, m3, m4⟩ := k5 u hw
        have h16 : a4 16 = a 16 := hfa 16 (by omega)
        have h5' : u2 (u2 a4 16 (18 + 2 * a 16 5) p) 16 (18 + 2 * a 16 5 + 1) v 16 5 = a 16 5 := by rw [u2_ni _ _ _ (by omega), u2_ni _ _ _ (by omega), h16]
        refine ⟨f4, u2 (u2 (u2 a4 16 (18 + 2 * a 16 5) p) 16 (18 + 2 * a 16 5 + 1) v) 16 5 (a 16 5 + 1), ?_, ⟨m2, m3.cg ((u2_nk _ _ _ (by omega)).trans ((u2_nk _ _ _ (by omega)).trans (u2_nk _ _ _ (by omega)))), m4, ?_, ?_⟩, h3.tr hfr, fun j j1 j2 j3 => (u2_nk _ _ _ j2).trans ((u2_nk _ _ _ j2).trans ((u2_nk _ _ _ j2).trans (hfa j j1)))⟩
        · rw [m2, if_pos rfl, gm16, Option.bind_some, sm16 x F P A f4 l a4 b p (by omega) (by omega), Option.bind_some, gm16, Option.bind_some, show (1 : Int32) = ii 1 from rfl, ii_add, sm16 x F P A f4 l _ b v (by omega) (by omega), Option.bind_some, gm16, Option.bind_some, rm16 x F P A f4 l _ b (by omega) (by omega), Option.bind_some, h5', ii_add, sm16 x F P A f4 l _ b _ (by omega) (by omega), Option.bind_some]
        · rw [u2_su1, u2_su1, u2_su1, h16, m1]
        · rw [u2_nk _ _ _ (by omega), u2_nk _ _ _ (by omega), u2_nk _ _ _ (by omega), hfa 18 (by omega)]
  | succ d ih =>
    intro N k r f' h1 h2 h3 hM hp'
    obtain ⟨N, rfl⟩ : ∃ M, N = M + 1 := ⟨N - 1, by omega⟩
    have e1 : ii (k : Int) + 1 = ii ((k + 1 : Nat) : Int) := by rw [show (1 : Int32) = ii 1 from rfl, ii_add]; rfl
    rw [f_X2_unsureLine_L27, gm16, Option.bind_some, show (5 : Int32) = ii 5 from rfl, rm16 x F P A f' l a b (by omega) (by omega), Option.bind_some, if_neg (by rw [ii_le (by omega) (by omega)]; omega), gm13, Option.bind_some]
    unfold f_X2_unsureLine_J68
    rw [e1]
    rcases r with e | t
    · obtain ⟨f2, a2, s1, s2, s3, s4⟩ := ih N (k + 1) (.error e) f' (by omega) (by omega) h3 hM (fun t h => by cases h)
      refine ⟨f2, a2, ?_, s2, s3, s4⟩
      rw [hM.1, if_neg (show ¬ ii 1 = 0 by decide)]
      exact s1
    · obtain ⟨rfl, p0, p1⟩ := hp' t rfl
      obtain ⟨m1, m2, m3⟩ := hM
      have hφ := hW.1 (18 + 2 * (k : Int)) (by omega) (by omega)
      rw [m1, if_pos (show ii 0 = 0 from rfl), Option.bind_some, show (18 : Int32) = ii 18 from rfl, show (2 : Int32) = ii 2 from rfl, ii_mul, ii_add, rm16 x F P A f' l a b (by omega) (by omega), Option.bind_some]
      show ∃ f2 a2, _ ∧ MP (f 3) f2 a2 (if isUk (a 16) p k then _ else _) ∧ _
      by_cases hc : a 16 (18 + 2 * (k : Int)) = p
      · rw [if_pos (show ii (a 16 (18 + 2 * (k : Int))) = ii p by rw [hc]), if_pos (show isUk (a 16) p k from ⟨⟨k, by omega⟩, Nat.le_refl k, by show (k : Int) < a 16 5; omega, hc⟩)]
        obtain ⟨f2, a2, s1, s2, s3, s4⟩ := ih N (k + 1) (.error (3, t.2.1)) (wf f' 3 t.2.1) (by omega) (by omega) (h3.tr (wf_Fr f' 3 t.2.1)) (wf_MS (f 3) f' a 3 t.2.1) (fun t h => by cases h)
        refine ⟨f2, a2, ?_, s2, s3, s4⟩
        rw [gm4, Option.bind_some, m2.1, ok1, Option.bind_some, show (3 : Int32) = ii 3 from rfl, m_wrong0 x F P A f' l a b m1, Option.bind_some]
        exact s1
      · rw [if_neg (show ¬ ii (a 16 (18 + 2 * (k : Int))) = ii p by rw [ii_eq (by omega) (by omega)]; exact hc)]
        obtain ⟨f2, a2, s1, s2, s3, s4⟩ := ih N (k + 1) (.ok t) f' (by omega) (by omega) h3 ⟨m1, m2, m3⟩ hp'
        refine ⟨f2, a2, s1, ?_, s3, s4⟩
        have s2 : MP (f 3) f2 a2 (if isUk (a 16) p (k + 1) then _ else _) := s2
        have hiff : isUk (a 16) p (k + 1) ↔ isUk (a 16) p k := by
          constructor
          · rintro ⟨j, j1, j2, j3⟩
            exact ⟨j, by omega, j2, j3⟩
          · rintro ⟨j, j1, j2, j3⟩
            refine ⟨j, ?_, j2, j3⟩
            by_cases hj : j.val = k
            · rw [hj] at j3
              exact absurd j3 hc
            · omega
        by_cases hU : isUk (a 16) p k
        · rw [if_pos (hiff.mpr hU)] at s2
          rw [if_pos hU]
          exact s2
        · rw [if_neg (fun h => hU (hiff.mp h))] at s2
          rw [if_neg hU]
          exact s2
theorem m_unsureLine (x : Nat) (F : Nat → Int) (P : Nat → Option Nat) (A : Nat → Int → Int) (f l : Nat → Int) (a : Nat → Int → Int) (b : fk_M) (g : Nat → Nat) (hC : Cn x b g) {t : Tkn} (hT : Tx8 (a 1) (f 3)) (hW : Wf (a 16) (a 18)) (h5 : a 16 5 < 4) (hM : MS (f 3) f a (.ok t)) : ∃ f' a', f_X2_unsureLine g (some (x + 8)) (hp x F P A f l a b) = some (hp x F P A f' l a' b) ∧ MP (f 3) f' a' (aUns (a 1) (f 3) (t, a 16, a 18)) ∧ FrF f f' ∧ FrA a a' := by
  have hu := hW.2.2.2.2.2.2.1
  unfold f_X2_unsureLine aUns
  obtain ⟨f1, z, g1, g2, g3⟩ := m_pairHere x F P A f l a b g hC hW.1 hM
  have g2 : MV (f 3) f1 a z (aKn (a 16) t) := g2
  rw [gm13, Option.bind_some, hM.1, if_pos (show ii 0 = 0 from rfl), gm16, Option.bind_some, show (5 : Int32) = ii 5 from rfl, rm16 x F P A f l a b (by omega) (by omega), Option.bind_some, ok1, Option.bind_some, g1, bn2_some, show (18 : Int32) = ii 18 from rfl, show (2 : Int32) = ii 2 from rfl, ii_mul, ii_add, show (0 : Int32) = ii ((0 : Nat) : Int) from rfl]
  dsimp only
  rcases hk : aKn (a 16) t with e | k
  · rw [hk] at g2
    obtain ⟨f2, a2, s1, s2, s3, s4⟩ := m_uns27 x F P A f l a b g hT hW h5 z (p := 0) (a 16 5).toNat fk_fuel 0 (.error e) f1 (by omega) (by unfold fk_fuel; omega) g3 g2 (fun t h => by cases h)
    exact ⟨f2, a2, s1, s2, s3, s4⟩
  · rw [hk] at g2
    obtain ⟨hz, m1, m2, m3⟩ := g2
    obtain ⟨⟨p0, p1⟩, -, -, -⟩ := aKn_rg hk
    obtain ⟨f2, a2, s1, s2, s3, s4⟩ := m_uns27 x F P A f l a b g hT hW h5 z (p := k.1) (a 16 5).toNat fk_fuel 0 (.ok k.2) f1 (by omega) (by unfold fk_fuel; omega) g3 ⟨m1, m2, m3⟩ (fun t h => ⟨hz, p0, p1⟩)
    refine ⟨f2, a2, s1, ?_, s3, s4⟩
    have hiff : isUk (a 16) k.1 0 ↔ isU (a 16) k.1 := ⟨fun ⟨j, _, j2, j3⟩ => ⟨j, j2, j3⟩, fun ⟨j, j2, j3⟩ => ⟨j, Nat.zero_le _, j2, j3⟩⟩
    have s2 : MP (f 3) f2 a2 (if isUk (a 16) k.1 0 then _ else _) := s2
    show MP (f 3) f2 a2 (if isU (a 16) k.1 then _ else _)
    by_cases hU : isU (a 16) k.1
    · rw [if_pos (hiff.mpr hU)] at s2
      rw [if_pos hU]
      exact s2
    · rw [if_neg (fun h => hU (hiff.mp h))] at s2
      rw [if_neg hU]
      exact s2
abbrev isHk (φ : Int → Int) (p m : Int) (k : Nat) : Prop := ∃ j : Fin 8, k ≤ j.val ∧ (j.val : Int) < φ 6 ∧ φ (26 + 3 * (j.val : Int)) = p ∧ φ (26 + 3 * (j.val : Int) + 1) = m
theorem m_hrd47 (x : Nat) (F : Nat → Int) (P : Nat → Option Nat) (A : Nat → Int → Int) (f l : Nat → Int) (a : Nat → Int → Int) (b : fk_M) (g : Nat → Nat) (hC : Cn x b g) (hT : Tx8 (a 1) (f 3)) (hW : Wf (a 16) (a 18)) (h6 : a 16 6 < 8) (z0 z9 : Int32) {p m : Int} : ∀ (d N k : Nat) (r : Except Er Tkn) (f' : Nat → Int), (k : Int) + d = a 16 6 → d < N → FrF f f' → MS (f 3) f' a r → (∀ t, r = .ok t → z0 = ii p ∧ (0 ≤ p ∧ p < 5) ∧ z9 = ii m ∧ (1 ≤ m ∧ m ≤ 30)) → ∃ f2 a2, f_X2_heardLine_L47 g (some (x + 8)) (ii (26 + 3 * a 16 6)) z0 z9 N (ii k) (hp x F P A f' l a b) = some (hp x F P A f2 l a2 b) ∧ MP (f 3) f2 a2 (r.bind fun t => if isHk (a 16) p m k then .error (3, t.2.1) else (aPt (a 1) (f 3) (kw 20) 0 (a 16 0) (aOn (a 1) (f 3) t)).bind fun v => .ok (v.2, su1 (su1 (su1 (su1 (a 16) (26 + 3 * a 16 6) p) (26 + 3 * a 16 6 + 1) m) (26 + 3 * a 16 6 + 2) v.1) 6 (a 16 6 + 1), a 18)) ∧ FrF f f2 ∧ FrA a a2 := by
  have hu := hW.2.2.2.2.2.2.2.1
  have h0 := hW.2.2.1
  intro d
  induction d with
  | zero =>
    intro N k r f' h1 h2 h3 hM hp'
    obtain ⟨N, rfl⟩ : ∃ M, N = M + 1 := ⟨N - 1, by omega⟩
    have e3 := h3.e3
    obtain ⟨f1, a1, f4, a4, z, g1, k1, k2, hfr, hfa, hfa1⟩ := m_pA x F P A f' l a b g hC (by rw [e3]; exact hT) (by rw [e3]; exact hM) (lo := 0) (hi := a 16 0) (by omega) (by omega) (i := 36) (by omega)
    rw [e3] at k2
    obtain ⟨v, rfl, k5, k6⟩ := k2.pk
    have hno : ¬ isHk (a 16) p m k := by
      rintro ⟨j, j1, j2, -⟩
      omega
    have ha0 : a1 16 = a 16 := hfa1 16 (by omega)
    rw [f_X2_heardLine_L47, gm16, Option.bind_some, show (6 : Int32) = ii 6 from rfl, rm16 x F P A f' l a b (by omega) (by omega), Option.bind_some, if_pos (by rw [ii_le (by omega) (by omega)]; omega), ok1, Option.bind_some, g1, Option.bind_some, gm16, Option.bind_some, show (0 : Int32) = ii 0 from rfl, rm16 x F P A f1 l a1 b (by omega) (by omega), Option.bind_some, ok1, Option.bind_some, ha0, k1, bn2_some, gm13, Option.bind_some]
    have hbad : ∀ e : Er, f4 13 = 1 ∧ f4 9 = e.1 ∧ f4 10 = e.2 → ∃ f2 a2, (if ii (f4 13) = ii 0 then ((gR (hp x F P A f4 l a4 b) (some (x + 8)) 1 16).bind fun z11 => (sI (hp x F P A f4 l a4 b) z11 0 (ii (26 + 3 * a 16 6)) z0).bind fun m12 => (gR m12 (some (x + 8)) 1 16).bind fun z13 => (sI m12 z13 0 (ii (26 + 3 * a 16 6) + 1) z9).bind fun m14 => (gR m14 (some (x + 8)) 1 16).bind fun z15 => (sI m14 z15 0 (ii (26 + 3 * a 16 6) + 2) (ii v)).bind fun m16 => (gR m16 (some (x + 8)) 1 16).bind fun z17 => (aI m16 z17 0 (ii 6)).bind fun z18 => (sI m16 z17 0 (ii 6) (z18 + 1)).bind fun m19 => some m19) else (some (hp x F P A f4 l a4 b))) = some (hp x F P A f2 l a2 b) ∧ MP (f 3) f2 a2 (.error e) ∧ FrF f f2 ∧ FrA a a2 := by
      intro e he
      refine ⟨f4, a4, ?_, he, h3.tr hfr, fun j j1 _ _ => hfa j j1⟩
      rw [he.1, if_neg (show ¬ ii 1 = ii 0 by decide)]
    rcases r with e | t
    · exact hbad e (k6 e rfl)
    · obtain ⟨rfl, ⟨p0, p1⟩, rfl, q0, q1⟩ := hp' t rfl
      show ∃ f2 a2, _ ∧ MP (f 3) f2 a2 (if isHk (a 16) p m k then _ else _) ∧ _
      rw [if_neg hno]
      have k5 : ∀ t', aPt (a 1) (f 3) (kw 20) 0 (a 16 0) (aOn (a 1) (f 3) t) = .ok t' → t'.1 = v ∧ f4 13 = 0 ∧ TokM f4 a4 t'.2 ∧ Tok8 (f 3) t'.2 := k5
      have k6 : ∀ e, aPt (a 1) (f 3) (kw 20) 0 (a 16 0) (aOn (a 1) (f 3) t) = .error e → f4 13 = 1 ∧ f4 9 = e.1 ∧ f4 10 = e.2 := k6
      rcases hw : aPt (a 1) (f 3) (kw 20) 0 (a 16 0) (aOn (a 1) (f 3) t) with e | u
      · exact hbad e (k6 e hw)
      · obtain ⟨m1, m2, m3, m4⟩ := k5 u hw
        have h16 : a4 16 = a 16 := hfa 16 (by omega)
        have h6' : u2 (u2 (u2 a4 16 (26 + 3 * a 16 6) p) 16 (26 + 3 * a 16 6 + 1) m) 16 (26 + 3 * a 16 6 + 2) v 16 6 = a 16 6 := by rw [u2_ni _ _ _ (by omega), u2_ni _ _ _ (by omega), u2_ni _ _ _ (by omega), h16]
        refine ⟨f4, u2 (u2 (u2 (u2 a4 16 (26 + 3 * a 16 6) p) 16 (26 + 3 * a 16 6 + 1) m) 16 (26 + 3 * a 16 6 + 2) v) 16 6 (a 16 6 + 1), ?_, ⟨m2, m3.cg ((u2_nk _ _ _ (by omega)).trans ((u2_nk _ _ _ (by omega)).trans ((u2_nk _ _ _ (by omega)).trans (u2_nk _ _ _ (by omega))))), m4, ?_, ?_⟩, h3.tr hfr, fun j j1 j2 j3 => (u2_nk _ _ _ j2).trans ((u2_nk _ _ _ j2).trans ((u2_nk _ _ _ j2).trans ((u2_nk _ _ _ j2).trans (hfa j j1))))⟩
        · rw [m2, if_pos rfl, gm16, Option.bind_some, sm16 x F P A f4 l a4 b p (by omega) (by omega), Option.bind_some, gm16, Option.bind_some, show (1 : Int32) = ii 1 from rfl, show (2 : Int32) = ii 2 from rfl, ii_add, ii_add, sm16 x F P A f4 l _ b m (by omega) (by omega), Option.bind_some, gm16, Option.bind_some, sm16 x F P A f4 l _ b v (by omega) (by omega), Option.bind_some, gm16, Option.bind_some, rm16 x F P A f4 l _ b (by omega) (by omega), Option.bind_some, h6', ii_add, sm16 x F P A f4 l _ b _ (by omega) (by omega), Option.bind_some]
        · rw [u2_su1, u2_su1, u2_su1, u2_su1, h16, m1]
        · rw [u2_nk _ _ _ (by omega), u2_nk _ _ _ (by omega), u2_nk _ _ _ (by omega), u2_nk _ _ _ (by omega), hfa 18 (by omega)]
  | succ d ih =>
    intro N k r f' h1 h2 h3 hM hp'
    obtain ⟨N, rfl⟩ : ∃ M, N = M + 1 := ⟨N - 1, by omega⟩
    have e1 : ii (k : Int) + 1 = ii ((k + 1 : Nat) : Int) := by rw [show (1 : Int32) = ii 1 from rfl, ii_add]; rfl
    rw [f_X2_heardLine_L47, gm16, Option.bind_some, show (6 : Int32) = ii 6 from rfl, rm16 x F P A f' l a b (by omega) (by omega), Option.bind_some, if_neg (by rw [ii_le (by omega) (by omega)]; omega), gm13, Option.bind_some]
    unfold f_X2_heardLine_J109
    rw [e1]
    rcases r with e | t
    · obtain ⟨f2, a2, s1, s2, s3, s4⟩ := ih N (k + 1) (.error e) f' (by omega) (by omega) h3 hM (fun t h => by cases h)
      refine ⟨f2, a2, ?_, s2, s3, s4⟩
      rw [hM.1, if_neg (show ¬ ii 1 = 0 by decide)]
      exact s1
    · obtain ⟨rfl, ⟨p0, p1⟩, rfl, q0, q1⟩ := hp' t rfl
      obtain ⟨m1, m2, m3⟩ := hM
      have hφ := hW.1 (26 + 3 * (k : Int)) (by omega) (by omega)
      have hφ2 := hW.1 (26 + 3 * (k : Int) + 1) (by omega) (by omega)
      have go : ¬ (a 16 (26 + 3 * (k : Int)) = p ∧ a 16 (26 + 3 * (k : Int) + 1) = m) → ∃ f2 a2, f_X2_heardLine_L47 g (some (x + 8)) (ii (26 + 3 * a 16 6)) (ii p) (ii m) N (ii ((k + 1 : Nat) : Int)) (hp x F P A f' l a b) = some (hp x F P A f2 l a2 b) ∧ MP (f 3) f2 a2 (if isHk (a 16) p m k then .error (3, t.2.1) else (aPt (a 1) (f 3) (kw 20) 0 (a 16 0) (aOn (a 1) (f 3) t)).bind fun v => .ok (v.2, su1 (su1 (su1 (su1 (a 16) (26 + 3 * a 16 6) p) (26 + 3 * a 16 6 + 1) m) (26 + 3 * a 16 6 + 2) v.1) 6 (a 16 6 + 1), a 18)) ∧ FrF f f2 ∧ FrA a a2 := by
        intro hc
        obtain ⟨f2, a2, s1, s2, s3, s4⟩ := ih N (k + 1) (.ok t) f' (by omega) (by omega) h3 ⟨m1, m2, m3⟩ hp'
        refine ⟨f2, a2, s1, ?_, s3, s4⟩
        have s2 : MP (f 3) f2 a2 (if isHk (a 16) p m (k + 1) then _ else _) := s2
        have hiff : isHk (a 16) p m (k + 1) ↔ isHk (a 16) p m k := by
          constructor
          · rintro ⟨j, j1, j2, j3⟩
            exact ⟨j, by omega, j2, j3⟩
          · rintro ⟨j, j1, j2, j3⟩
            refine ⟨j, ?_, j2, j3⟩
            by_cases hj : j.val = k
            · rw [hj] at j3
              exact absurd j3 hc
            · omega
        by_cases hU : isHk (a 16) p m k
        · rw [if_pos (hiff.mpr hU)] at s2
          rw [if_pos hU]
          exact s2
        · rw [if_neg (fun h => hU (hiff.mp h))] at s2
          rw [if_neg hU]
          exact s2
      rw [m1, if_pos (show ii 0 = 0 from rfl), Option.bind_some, show (26 : Int32) = ii 26 from rfl, show (3 : Int32) = ii 3 from rfl, ii_mul, ii_add, rm16 x F P A f' l a b (by omega) (by omega), Option.bind_some]
      show ∃ f2 a2, _ ∧ MP (f 3) f2 a2 (if isHk (a 16) p m k then _ else _) ∧ _
      by_cases hc : a 16 (26 + 3 * (k : Int)) = p
      · rw [if_pos (show ii (a 16 (26 + 3 * (k : Int))) = ii p by rw [hc]), Option.bind_some, show (1 : Int32) = ii 1 from rfl, ii_add, rm16 x F P A f' l a b (by omega) (by omega), Option.bind_some]
        by_cases hc2 : a 16 (26 + 3 * (k : Int) + 1) = m
        · rw [if_pos (show ii (a 16 (26 + 3 * (k : Int) + 1)) = ii m by rw [hc2]), if_pos (show isHk (a 16) p m k from ⟨⟨k, by omega⟩, Nat.le_refl k, by show (k : Int) < a 16 6; omega, hc, hc2⟩)]
          obtain ⟨f2, a2, s1, s2, s3, s4⟩ := ih N (k + 1) (.error (3, t.2.1)) (wf f' 3 t.2.1) (by omega) (by omega) (h3.tr (wf_Fr f' 3 t.2.1)) (wf_MS (f 3) f' a 3 t.2.1) (fun t h => by cases h)
          refine ⟨f2, a2, ?_, s2, s3, s4⟩
          rw [gm4, Option.bind_some, m2.1, ok1, Option.bind_some, m_wrong0 x F P A f' l a b m1, Option.bind_some]
          exact s1
        · rw [if_neg (show ¬ ii (a 16 (26 + 3 * (k : Int) + 1)) = ii m by rw [ii_eq (by omega) (by omega)]; exact hc2)]
          exact go (fun h => hc2 h.2)
      · rw [if_neg (show ¬ ii (a 16 (26 + 3 * (k : Int))) = ii p by rw [ii_eq (by omega) (by omega)]; exact hc)]
        exact go (fun h => hc h.1)
theorem m_heardLine (x : Nat) (F : Nat → Int) (P : Nat → Option Nat) (A : Nat → Int → Int) (f l : Nat → Int) (a : Nat → Int → Int) (b : fk_M) (g : Nat → Nat) (hC : Cn x b g) {t : Tkn} (hT : Tx8 (a 1) (f 3)) (hW : Wf (a 16) (a 18)) (h6 : a 16 6 < 8) (hM : MS (f 3) f a (.ok t)) : ∃ f' a', f_X2_heardLine g (some (x + 8)) (hp x F P A f l a b) = some (hp x F P A f' l a' b) ∧ MP (f 3) f' a' (aHrd (a 1) (f 3) (t, a 16, a 18)) ∧ FrF f f' ∧ FrA a a' := by
  have hu := hW.2.2.2.2.2.2.2.1
  unfold f_X2_heardLine aHrd
  obtain ⟨f1, z, g1, g2, g3⟩ := m_pairHere x F P A f l a b g hC hW.1 hM
  have e3 := g3.e3
  have g2 : MV (f 3) f1 a z (aKn (a 16) t) := g2
  obtain ⟨f2, a2, k1, k2, k3, k4⟩ := m_pass x F P A f1 l a b (r := (aKn (a 16) t).map Prod.snd) (by rw [e3]; exact hT) (by rw [e3]; exact g2.ms)
  rw [e3] at k2
  have e32 : f2 3 = f 3 := k3.e3.trans e3
  have a21 : a2 1 = a 1 := k4 1 (by omega)
  obtain ⟨f3, a3, n1, n2, n3, n4⟩ := m_must x F P A f2 l a2 b g hC (r := ((aKn (a 16) t).map Prod.snd).map (aOn (a 1) (f 3))) (by rw [e32, a21]; exact hT) (by rw [e32]; exact k2) (i := 39) (by omega)
  rw [e32, a21] at n2
  have e33 : f3 3 = f 3 := n3.e3.trans e32
  have hfa : Fr12 a a3 := fun j hj => (n4 j hj).trans (k4 j hj)
  have a31 : a3 1 = a 1 := hfa 1 (by omega)
  have a316 : a3 16 = a 16 := hfa 16 (by omega)
  have a318 : a3 18 = a 18 := hfa 18 (by omega)
  obtain ⟨f4, z9, q1, q2, q3⟩ := m_numberHere x F P A f3 l a3 b (lo := 1) (hi := 30) (by omega) (by omega) (r := (((aKn (a 16) t).map Prod.snd).map (aOn (a 1) (f 3))).bind (aMust (a 1) (f 3) (kw 39))) (by rw [e33]; exact n2)
  rw [e33] at q2
  have hfr : FrF f f4 := ((g3.tr k3).tr n3).tr q3
  have hfr3 : FrF f f3 := (g3.tr k3).tr n3
  rw [gm13, Option.bind_some, hM.1, if_pos (show ii 0 = 0 from rfl), gm16, Option.bind_some, show (6 : Int32) = ii 6 from rfl, rm16 x F P A f l a b (by omega) (by omega), Option.bind_some, ok1, Option.bind_some, g1, bn2_some, ok1, Option.bind_some, k1, Option.bind_some, ok1, Option.bind_some, n1, Option.bind_some, ok1, Option.bind_some, show (1 : Int32) = ii 1 from rfl, show (30 : Int32) = ii 30 from rfl, q1, bn2_some, show (26 : Int32) = ii 26 from rfl, show (3 : Int32) = ii 3 from rfl, ii_mul, ii_add, show (0 : Int32) = ii ((0 : Nat) : Int) from rfl]
  dsimp only
  have hT3 : Tx8 (a3 1) (f3 3) := by rw [e33, a31]; exact hT
  have hW3 : Wf (a3 16) (a3 18) := by rw [a316, a318]; exact hW
  have hFA : ∀ a', FrA a3 a' → FrA a a' := fun a' h j j1 j2 j3 => (h j j1 j2 j3).trans (hfa j j1)
  have hbad : ∀ e : Er, (f4 13 = 1 ∧ f4 9 = e.1 ∧ f4 10 = e.2) → ∃ f' a', f_X2_heardLine_L47 g (some (x + 8)) (ii (26 + 3 * a 16 6)) z z9 fk_fuel (ii ((0 : Nat) : Int)) (hp x F P A f4 l a3 b) = some (hp x F P A f' l a' b) ∧ MP (f 3) f' a' (.error e) ∧ FrF f f' ∧ FrA a a' := by
    intro e he
    obtain ⟨f5, a5, s1, s2, s3, s4⟩ := m_hrd47 x F P A f3 l a3 b g hC hT3 hW3 (by rw [a316]; exact h6) z z9 (p := 0) (m := 0) (a 16 6).toNat fk_fuel 0 (.error e) f4 (by rw [a316]; omega) (by unfold fk_fuel; omega) q3 (by rw [e33]; exact he) (fun t h => by cases h)
    rw [a316, e33] at *
    exact ⟨f5, a5, s1, s2, hfr3.tr s3, hFA a5 s4⟩
  rcases hk : aKn (a 16) t with e | k
  · rw [hk] at q2
    exact hbad e q2
  · rw [hk] at g2 q2
    obtain ⟨⟨p0, p1⟩, -, -, -⟩ := aKn_rg hk
    show ∃ f' a', _ ∧ MP (f 3) f' a' ((aMust (a 1) (f 3) (kw 23) (aOn (a 1) (f 3) k.2)).bind _) ∧ _
    have q2 : MV (f 3) f4 a3 z9 ((aMust (a 1) (f 3) (kw 23) (aOn (a 1) (f 3) k.2)).bind (aNum 1 30)) := q2
    rcases hm : aMust (a 1) (f 3) (kw 23) (aOn (a 1) (f 3) k.2) with e | t2
    · rw [hm] at q2
      exact hbad e q2
    · rw [hm] at q2
      show ∃ f' a', _ ∧ MP (f 3) f' a' ((aNum 1 30 t2).bind _) ∧ _
      have q2 : MV (f 3) f4 a3 z9 (aNum 1 30 t2) := q2
      rcases hn : aNum 1 30 t2 with e | m
      · rw [hn] at q2
        exact hbad e q2
      · rw [hn] at q2
        obtain ⟨hz9, m1, m2, m3⟩ := q2
        obtain ⟨hr, -⟩ := aNum_rg hn
        obtain ⟨f5, a5, s1, s2, s3, s4⟩ := m_hrd47 x F P A f3 l a3 b g hC hT3 hW3 (by rw [a316]; exact h6) z z9 (p := k.1) (m := m.1) (a 16 6).toNat fk_fuel 0 (.ok m.2) f4 (by rw [a316]; omega) (by unfold fk_fuel; omega) q3 (by rw [e33]; exact ⟨m1, m2, m3⟩) (fun t h => ⟨g2.1, ⟨p0, p1⟩, hz9, hr⟩)
        rw [a316] at s1
        rw [e33, a31, a316, a318] at s2
        refine ⟨f5, a5, s1, ?_, hfr3.tr s3, hFA a5 s4⟩
        have hiff : isHk (a 16) k.1 m.1 0 ↔ isH (a 16) k.1 m.1 := ⟨fun ⟨j, _, j2, j3⟩ => ⟨j, j2, j3⟩, fun ⟨j, j2, j3⟩ => ⟨j, Nat.zero_le _, j2, j3⟩⟩
        have s2 : MP (f 3) f5 a5 (if isHk (a 16) k.1 m.1 0 then _ else _) := s2
        show MP (f 3) f5 a5 (if isH (a 16) k.1 m.1 then _ else _)
        by_cases hU : isH (a 16) k.1 m.1
        · rw [if_pos (hiff.mpr hU)] at s2
          rw [if_pos hU]
          exact s2
        · rw [if_neg (fun h => hU (hiff.mp h))] at s2
          rw [if_neg hU]
          exact s2
