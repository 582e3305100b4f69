/-! PLAIN 39: the model's lines -/
set_option maxRecDepth 100000
theorem FrF.e3 {f f' : Nat → Int} (h : FrF f f') : f' 3 = f 3 := h 3 (by omega) (by omega) (by omega) (by omega) (by omega) (by omega) (by omega) (by omega)
theorem m_pair87 (x : Nat) (F : Nat → Int) (P : Nat → Option Nat) (A : Nat → Int → Int) (f l : Nat → Int) (a : Nat → Int → Int) (b : fk_M) (g : Nat → Nat) (hC : Cn x b g) {r : Except Er Tkn} (hT : Tx8 (a 1) (f 3)) (hM : MS (f 3) f a r) (h0 : ∀ t, r = .ok t → rg (a 16 0) ∧ rg (a 16 2)) {p lw : Int} (p0 : 0 ≤ p) (p1 : p < 5) : ∃ f' a', f_X2_pairLine_J87 g (some (x + 8)) (ii p) (ii lw) (hp x F P A f l a b) = some (hp x F P A f' l a' b) ∧ MP (f 3) f' a' (r.bind fun t1 => (aPt (a 1) (f 3) (kw 20) 0 (a 16 0) (aOn (a 1) (f 3) t1)).bind fun v => (aPt (a 1) (f 3) (kw 21) 0 20 v.2).bind fun d => .ok (d.2, su1 (su1 (a 16) (8 + p) lw) 2 (a 16 2 + 1), su1 (su1 (a 18) p v.1) (5 + p) d.1)) ∧ FrF f f' ∧ FrA a a' := by
  unfold f_X2_pairLine_J87
  obtain ⟨f1, a1, g1, g2, g3, g4⟩ := m_pass x F P A f l a b hT hM
  have e3 := g3.e3
  have e1 : a1 1 = a 1 := g4 1 (by omega)
  have e16 : a1 16 = a 16 := g4 16 (by omega)
  have hpk := ii_pk (ii (a 16 0))
  obtain ⟨f2, a2, z, k1, k2, k3, k4⟩ := m_after x F P A f1 l a1 b g hC (lo := 0) (hi := (ii (a 16 0)).toInt) (by omega) hpk.2 (by rw [e3, e1]; exact hT) (by rw [e3]; exact g2) (i := 36) (by omega)
  rw [← hpk.1] at k1
  rw [e3, e1] at k2
  have e32 : f2 3 = f 3 := k3.e3.trans e3
  have e12 : a2 1 = a 1 := (k4 1 (by omega)).trans e1
  obtain ⟨f4, a4, z2, n1, n2, n3, n4⟩ := m_after x F P A f2 l a2 b g hC (lo := 0) (hi := 20) (by omega) (by omega) (by rw [e32, e12]; exact hT) (by rw [e32]; exact k2.ms) (i := 37) (by omega)
  rw [e32, e12] at n2
  obtain ⟨v, rfl, k5, k6⟩ := k2.pk
  obtain ⟨v2, rfl, n5, n6⟩ := n2.pk
  have hfr : FrF f f4 := (g3.tr k3).tr n3
  have hfa : ∀ j, j ≠ 12 → a4 j = a j := fun j j1 => (n4 j j1).trans ((k4 j j1).trans (g4 j j1))
  have hrun : ∀ y : Option fk_M, ((gI (hp x F P A f4 l a4 b) (some (x + 8)) 1 13).bind fun z11 => if z11 = 0 then (gR (hp x F P A f4 l a4 b) (some (x + 8)) 1 16).bind fun z12 => (sI (hp x F P A f4 l a4 b) z12 0 (8 + ii p) (ii lw)).bind fun m13 => (gR m13 (some (x + 8)) 1 18).bind fun z14 => (sI m13 z14 0 (ii p) (ii v)).bind fun m15 => (gR m15 (some (x + 8)) 1 18).bind fun z16 => (sI m15 z16 0 (5 + ii p) (ii v2)).bind fun m17 => (gR m17 (some (x + 8)) 1 16).bind fun z18 => (aI m17 z18 0 2).bind fun z19 => (sI m17 z18 0 2 (z19 + 1)).bind fun m20 => some m20 else some (hp x F P A f4 l a4 b)) = y → ((isO (hp x F P A f l a b) (some (x + 8)) 1).bind fun u1 => (f_X2_pass (some (x + 8)) (hp x F P A f l a b)).bind fun m2 => (gR m2 (some (x + 8)) 1 16).bind fun z3 => (aI m2 z3 0 0).bind fun z4 => (isO m2 (some (x + 8)) 1).bind fun u5 => bn2 (f_X2_after g (some (x + 8)) (some (g 36)) 0 z4 m2) fun z6 m7 => (isO m7 (some (x + 8)) 1).bind fun u8 => bn2 (f_X2_after g (some (x + 8)) (some (g 37)) 0 20 m7) fun z9 m10 => (gI m10 (some (x + 8)) 1 13).bind fun z11 => if z11 = 0 then (gR m10 (some (x + 8)) 1 16).bind fun z12 => (sI m10 z12 0 (8 + ii p) (ii lw)).bind fun m13 => (gR m13 (some (x + 8)) 1 18).bind fun z14 => (sI m13 z14 0 (ii p) z6).bind fun m15 => (gR m15 (some (x + 8)) 1 18).bind fun z16 => (sI m15 z16 0 (5 + ii p) z9).bind fun m17 => (gR m17 (some (x + 8)) 1 16).bind fun z18 => (aI m17 z18 0 2).bind fun z19 => (sI m17 z18 0 2 (z19 + 1)).bind fun m20 => some m20 else some m10) = y := by
    intro y hy
    rw [ok1, Option.bind_some, g1, Option.bind_some, gm16, Option.bind_some, show (0 : Int32) = ii 0 from rfl, rm16 x F P A f1 l a1 b (by omega) (by omega), Option.bind_some, ok1, Option.bind_some, e16, k1, bn2_some, ok1, Option.bind_some, show (20 : Int32) = ii 20 from rfl, n1, bn2_some]
    exact hy
  have hbad : ∀ e : Er, f4 13 = 1 ∧ f4 9 = e.1 ∧ f4 10 = e.2 → ∃ f' a', ((isO (hp x F P A f l a b) (some (x + 8)) 1).bind fun u1 => (f_X2_pass (some (x + 8)) (hp x F P A f l a b)).bind fun m2 => (gR m2 (some (x + 8)) 1 16).bind fun z3 => (aI m2 z3 0 0).bind fun z4 => (isO m2 (some (x + 8)) 1).bind fun u5 => bn2 (f_X2_after g (some (x + 8)) (some (g 36)) 0 z4 m2) fun z6 m7 => (isO m7 (some (x + 8)) 1).bind fun u8 => bn2 (f_X2_after g (some (x + 8)) (some (g 37)) 0 20 m7) fun z9 m10 => (gI m10 (some (x + 8)) 1 13).bind fun z11 => if z11 = 0 then (gR m10 (some (x + 8)) 1 16).bind fun z12 => (sI m10 z12 0 (8 + ii p) (ii lw)).bind fun m13 => (gR m13 (some (x + 8)) 1 18).bind fun z14 => (sI m13 z14 0 (ii p) z6).bind fun m15 => (gR m15 (some (x + 8)) 1 18).bind fun z16 => (sI m15 z16 0 (5 + ii p) z9).bind fun m17 => (gR m17 (some (x + 8)) 1 16).bind fun z18 => (aI m17 z18 0 2).bind fun z19 => (sI m17 z18 0 2 (z19 + 1)).bind fun m20 => some m20 else some m10) = some (hp x F P A f' l a' b) ∧ MP (f 3) f' a' (.error e) ∧ FrF f f' ∧ FrA a a' := by
    intro e he
    refine ⟨f4, a4, hrun _ ?_, he, hfr, fun j j1 _ _ => hfa j j1⟩
    rw [gm13, Option.bind_some, he.1, if_neg (show ¬ ii 1 = 0 by decide)]
  rcases r with e | t
  · exact hbad e (n6 e rfl)
  · obtain ⟨hr0, hr2⟩ := h0 t rfl
    have e0 : (ii (a 16 0)).toInt = a 16 0 := ii_toInt hr0
    rw [e0] at k5 k6 n5 n6
    have n5 : ∀ t', ((aPt (a 1) (f 3) (kw 20) 0 (a 16 0) (aOn (a 1) (f 3) t)).map Prod.snd).bind (aPt (a 1) (f 3) (kw 21) 0 20) = .ok t' → t'.1 = v2 ∧ f4 13 = 0 ∧ TokM f4 a4 t'.2 ∧ Tok8 (f 3) t'.2 := n5
    have n6 : ∀ e, ((aPt (a 1) (f 3) (kw 20) 0 (a 16 0) (aOn (a 1) (f 3) t)).map Prod.snd).bind (aPt (a 1) (f 3) (kw 21) 0 20) = .error e → f4 13 = 1 ∧ f4 9 = e.1 ∧ f4 10 = e.2 := n6
    have k5 : ∀ t', aPt (a 1) (f 3) (kw 20) 0 (a 16 0) (aOn (a 1) (f 3) t) = .ok t' → t'.1 = v := fun t' h => (k5 t' h).1
    show ∃ f' a', _ ∧ MP (f 3) f' a' ((aPt (a 1) (f 3) (kw 20) 0 (a 16 0) (aOn (a 1) (f 3) t)).bind _) ∧ _
    rcases hw : aPt (a 1) (f 3) (kw 20) 0 (a 16 0) (aOn (a 1) (f 3) t) with e | u
    · rw [hw] at n6
      exact hbad e (n6 e rfl)
    · have hv := k5 u hw
      rw [hw] at n5 n6
      show ∃ f' a', _ ∧ MP (f 3) f' a' ((aPt (a 1) (f 3) (kw 21) 0 20 u.2).bind _) ∧ _
      have n5 : ∀ t', aPt (a 1) (f 3) (kw 21) 0 20 u.2 = .ok t' → t'.1 = v2 ∧ f4 13 = 0 ∧ TokM f4 a4 t'.2 ∧ Tok8 (f 3) t'.2 := n5
      have n6 : ∀ e, aPt (a 1) (f 3) (kw 21) 0 20 u.2 = .error e → f4 13 = 1 ∧ f4 9 = e.1 ∧ f4 10 = e.2 := n6
      rcases hw2 : aPt (a 1) (f 3) (kw 21) 0 20 u.2 with e | d
      · exact hbad e (n6 e hw2)
      · obtain ⟨m1, m2, m3, m4⟩ := n5 d hw2
        have h16 : a4 16 = a 16 := hfa 16 (by omega)
        have h18 : a4 18 = a 18 := hfa 18 (by omega)
        have h2 : u2 (u2 (u2 a4 16 (8 + p) lw) 18 p v) 18 (5 + p) v2 16 2 = a 16 2 := by
          rw [u2_nk _ _ _ (by omega), u2_nk _ _ _ (by omega), u2_ni _ _ _ (by omega), h16]
        refine ⟨f4, u2 (u2 (u2 (u2 a4 16 (8 + p) lw) 18 p v) 18 (5 + p) v2) 16 2 (a 16 2 + 1), hrun _ ?_, ⟨m2, m3.cg ?_, m4, ?_, ?_⟩, hfr, fun j j1 j2 j3 => ?_⟩
        · rw [gm13, Option.bind_some, m2, if_pos (show ii 0 = 0 from rfl), gm16, Option.bind_some, show (8 : Int32) = ii 8 from rfl, ii_add, sm16 x F P A f4 l a4 b lw (by omega) (by omega), Option.bind_some, gm18, Option.bind_some, sm18 x F P A f4 l _ b v (by omega) (by omega), Option.bind_some, gm18, Option.bind_some, show (5 : Int32) = ii 5 from rfl, ii_add, sm18 x F P A f4 l _ b v2 (by omega) (by omega), Option.bind_some, gm16, Option.bind_some, show (2 : Int32) = ii 2 from rfl, rm16 x F P A f4 l _ b (by omega) (by omega), Option.bind_some, h2, show (1 : Int32) = ii 1 from rfl, ii_add, sm16 x F P A f4 l _ b _ (by omega) (by omega), Option.bind_some]
        · rw [u2_nk _ _ _ (by omega), u2_nk _ _ _ (by omega), u2_nk _ _ _ (by omega), u2_nk _ _ _ (by omega)]
        · rw [u2_su1, u2_nk _ _ _ (by omega), u2_nk _ _ _ (by omega), u2_su1, h16]
        · rw [u2_nk _ _ _ (by omega), u2_su1, u2_su1, u2_nk _ _ _ (by omega), h18, m1, hv]
        · rw [u2_nk _ _ _ j2, u2_nk _ _ _ j3, u2_nk _ _ _ j3, u2_nk _ _ _ j2, hfa j j1]
theorem m_pairLine (x : Nat) (F : Nat → Int) (P : Nat → Option Nat) (A : Nat → Int → Int) (f l : Nat → Int) (a : Nat → Int → Int) (b : fk_M) (g : Nat → Nat) (hC : Cn x b g) {t : Tkn} (hT : Tx8 (a 1) (f 3)) (hW : Wf (a 16) (a 18)) (h5 : a 16 2 < 5) (hM : MS (f 3) f a (.ok t)) : ∃ f' a', f_X2_pairLine g (some (x + 8)) (hp x F P A f l a b) = some (hp x F P A f' l a' b) ∧ MP (f 3) f' a' (aPair (a 1) (f 3) (t, a 16, a 18)) ∧ FrF f f' ∧ FrA a a' := by
  have hM' := hM
  obtain ⟨h1, h2, h3⟩ := hM
  have hp2 := hW.2.2.2.1
  have hp0 := hW.2.2.1
  unfold f_X2_pairLine
  rw [gm13, Option.bind_some, h1, if_pos (show ii 0 = 0 from rfl), gm16, Option.bind_some, show (2 : Int32) = ii 2 from rfl, rm16 x F P A f l a b (by omega) (by omega), Option.bind_some, ok1, Option.bind_some]
  obtain ⟨f1, a1, g1, g2, g3, g4, g5⟩ := m_newName x F P A f l a b g hC hT hW.1 hM' (p := a 16 2) (by omega) h5
  have e3 := g3.e3
  have e1 : a1 1 = a 1 := g4 1 (by omega) (by omega)
  have e18 : a1 18 = a 18 := g4 18 (by omega) (by omega)
  have hT1 : Tx8 (a1 1) (f1 3) := by rw [e3, e1]; exact hT
  rw [g1, Option.bind_some, ok1, Option.bind_some]
  unfold f_X2_pairLine_J73 aPair
  dsimp only
  have hFA : ∀ a', FrA a1 a' → FrA a a' := fun a' h j j1 j2 j3 => (h j j1 j2 j3).trans (g4 j j1 j2)
  rcases hr : aNew (a 1) (f 3) (a 16) t with e | t1
  · rw [hr] at g2
    have hw1 : ∀ q, f_X2_isWord g (some (x + 8)) q (hp x F P A f1 l a1 b) = some 0 := fun q => m_isWord1 x F P A f1 l a1 b g g2.1 q
    obtain ⟨f2, a2, k1, k2, k3, k4⟩ := m_pair87 x F P A f1 l a1 b g hC (r := .error e) hT1 (by rw [e3]; exact g2) (fun t h => by cases h) (p := a 16 2) (lw := -1) (by omega) h5
    refine ⟨f2, a2, ?_, k2, g3.tr k3, hFA a2 k4⟩
    simp only [hw1, Option.bind_some, if_true, ok1]
    rw [if_neg (show ¬ (0 : Int32) ≤ -1 by decide), gm4, Option.bind_some, m_wrong1 x F P A f1 l a1 b g2.1, Option.bind_some]
    exact k1
  · rw [hr] at g2
    have h16 := g5 t1 hr
    have e160 : a1 16 0 = a 16 0 := by
      rw [h16]
      unfold nmS
      rw [if_neg (by omega), if_neg (by omega)]
    have e162 : a1 16 2 = a 16 2 := by
      rw [h16]
      unfold nmS
      rw [if_neg (by omega), if_neg (by omega)]
    have g2' : MS (f1 3) f1 a1 (.ok t1) := by rw [e3]; exact g2
    obtain ⟨m1, m2, m3⟩ := g2'
    have w0 := m_isWord x F P A f1 l a1 b g hC m1 m2 m3 (i := 32) (by omega)
    have w1 := m_isWord x F P A f1 l a1 b g hC m1 m2 m3 (i := 33) (by omega)
    have w2 := m_isWord x F P A f1 l a1 b g hC m1 m2 m3 (i := 34) (by omega)
    have w3 := m_isWord x F P A f1 l a1 b g hC m1 m2 m3 (i := 35) (by omega)
    show ∃ f' a', _ ∧ MP (f 3) f' a' ((aLw t1).bind _) ∧ _
    have good : ∀ lw : Int, 0 ≤ lw → lawOf t1 = lw → lw ≤ 3 → ∃ f' a', f_X2_pairLine_J87 g (some (x + 8)) (ii (a 16 2)) (ii lw) (hp x F P A f1 l a1 b) = some (hp x F P A f' l a' b) ∧ MP (f 3) f' a' ((aLw t1).bind fun t1 => (aPt (a 1) (f 3) (kw 20) 0 (a 16 0) (aOn (a 1) (f 3) t1)).bind fun v => (aPt (a 1) (f 3) (kw 21) 0 20 v.2).bind fun d => .ok (d.2, su1 (su1 (nmS (a 16) (a 16 2) t.2.2.2.2) (8 + a 16 2) (lawOf t1)) 2 (a 16 2 + 1), su1 (su1 (a 18) (a 16 2) v.1) (5 + a 16 2) d.1)) ∧ FrF f f' ∧ FrA a a' := by
      intro lw l0 l1 l3
      obtain ⟨f2, a2, k1, k2, k3, k4⟩ := m_pair87 x F P A f1 l a1 b g hC (r := .ok t1) hT1 ⟨m1, m2, m3⟩ (fun t h => ⟨by omega, by omega⟩) (p := a 16 2) (lw := lw) (by omega) h5
      rw [e3, e1, e160, e162, e18, h16] at k2
      refine ⟨f2, a2, k1, ?_, g3.tr k3, hFA a2 k4⟩
      unfold aLw
      rw [if_pos (by omega)]
      show MP (f 3) f2 a2 ((aPt (a 1) (f 3) (kw 20) 0 (a 16 0) (aOn (a 1) (f 3) t1)).bind _)
      rw [l1]
      exact k2
    have ek0 : (0 : Int32) = ii 0 := rfl
    simp only [w0, w1, w2, w3, Option.bind_some, ok1]
    by_cases c0 : isW t1 (kw 32)
    · rw [if_pos c0, if_neg (show ¬ ii 1 = 0 by decide), if_pos (show (0 : Int32) ≤ 0 by decide)]
      exact good 0 (by omega) (if_pos c0) (by omega)
    rw [if_neg c0, if_pos (show ii 0 = 0 from rfl)]
    by_cases c1 : isW t1 (kw 33)
    · rw [if_pos c1, if_neg (show ¬ ii 1 = 0 by decide), if_pos (show (0 : Int32) ≤ 1 by decide)]
      exact good 1 (by omega) ((if_neg c0).trans (if_pos c1)) (by omega)
    rw [if_neg c1, if_pos (show ii 0 = 0 from rfl)]
    by_cases c2 : isW t1 (kw 34)
    · rw [if_pos c2, if_neg (show ¬ ii 1 = 0 by decide), if_pos (show (0 : Int32) ≤ ii 2 by decide)]
      exact good 2 (by omega) ((if_neg c0).trans ((if_neg c1).trans (if_pos c2))) (by omega)
    rw [if_neg c2, if_pos (show ii 0 = 0 from rfl)]
    by_cases c3 : isW t1 (kw 35)
    · rw [if_pos c3, if_neg (show ¬ ii 1 = 0 by decide), if_pos (show (0 : Int32) ≤ 3 by decide)]
      exact good 3 (by omega) ((if_neg c0).trans ((if_neg c1).trans ((if_neg c2).trans (if_pos c3)))) (by omega)
    have hl : lawOf t1 = -1 := (if_neg c0).trans ((if_neg c1).trans ((if_neg c2).trans (if_neg c3)))
    rw [if_neg c3, if_pos (show ii 0 = 0 from rfl), if_neg (show ¬ (0 : Int32) ≤ -1 by decide), gm4, Option.bind_some, m2.1, show (1 : Int32) = ii 1 from rfl, m_wrong0 x F P A f1 l a1 b m1, Option.bind_some]
    have wf3 : wf f1 1 t1.2.1 3 = f 3 := (wf_Fr f1 1 t1.2.1).e3.trans e3
    obtain ⟨f2, a2, k1, k2, k3, k4⟩ := m_pair87 x F P A (wf f1 1 t1.2.1) l a1 b g hC (r := .error (1, t1.2.1)) (by rw [wf3, e1]; exact hT) (by rw [wf3]; exact wf_MS (f 3) f1 a1 1 t1.2.1) (fun t h => by cases h) (p := a 16 2) (lw := -1) (by omega) h5
    refine ⟨f2, a2, k1, ?_, (g3.tr (wf_Fr f1 1 t1.2.1)).tr k3, hFA a2 k4⟩
    unfold aLw
    rw [hl, if_neg (by decide)]
    exact k2
