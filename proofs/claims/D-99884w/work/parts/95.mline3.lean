/-! PLAIN 40: the model's lines: contracts, debts, unsure and heard ones -/
set_option maxRecDepth 100000
theorem m_pA (x : Nat) (F : Nat → Int) (P : Nat → Option Nat) (A : Nat → Int → Int) (f l : Nat → Int) (a : Nat → Int → Int) (b : fk_M) (g : Nat → Nat) (hC : Cn x b g) {r : Except Er Tkn} (hT : Tx8 (a 1) (f 3)) (hM : MS (f 3) f a r) {lo hi : Int} (hl : rg lo) (hh : rg hi) {i : Nat} (hi' : i < 40) : ∃ f1 a1 f' a' z, f_X2_pass (some (x + 8)) (hp x F P A f l a b) = some (hp x F P A f1 l a1 b) ∧ f_X2_after g (some (x + 8)) (some (g i)) (ii lo) (ii hi) (hp x F P A f1 l a1 b) = some (z, hp x F P A f' l a' b) ∧ MV (f 3) f' a' z (r.bind fun t => aPt (a 1) (f 3) (kw i) lo hi (aOn (a 1) (f 3) t)) ∧ FrF f f' ∧ Fr12 a a' ∧ Fr12 a a1 := by
  obtain ⟨f1, a1, g1, g2, g3, g4⟩ := m_pass x F P A f l a b hT hM
  have e3 := g3.e3
  have e1 : a1 1 = a 1 := g4 1 (by omega)
  obtain ⟨f2, a2, z, k1, k2, k3, k4⟩ := m_after x F P A f1 l a1 b g hC hl hh (by rw [e3, e1]; exact hT) (by rw [e3]; exact g2) hi'
  rw [e3, e1] at k2
  refine ⟨f1, a1, f2, a2, z, g1, k1, ?_, g3.tr k3, fun j hj => (k4 j hj).trans (g4 j hj), g4⟩
  rcases r with e | t
  · exact k2
  · exact k2
theorem m_pN (x : Nat) (F : Nat → Int) (P : Nat → Option Nat) (A : Nat → Int → Int) (f l : Nat → Int) (a : Nat → Int → Int) (b : fk_M) {r : Except Er Tkn} (hT : Tx8 (a 1) (f 3)) (hM : MS (f 3) f a r) {lo hi : Int} (hl : rg lo) (hh : rg hi) : ∃ f1 a1 f' a' z, f_X2_pass (some (x + 8)) (hp x F P A f l a b) = some (hp x F P A f1 l a1 b) ∧ f_X2_number (some (x + 8)) (ii lo) (ii hi) (hp x F P A f1 l a1 b) = some (z, hp x F P A f' l a' b) ∧ MV (f 3) f' a' z (r.bind fun t => aWh (a 1) (f 3) lo hi (aOn (a 1) (f 3) t)) ∧ FrF f f' ∧ Fr12 a a' := by
  obtain ⟨f1, a1, g1, g2, g3, g4⟩ := m_pass x F P A f l a b hT hM
  have e3 := g3.e3
  have e1 : a1 1 = a 1 := g4 1 (by omega)
  obtain ⟨f2, a2, z, k1, k2, k3, k4⟩ := m_number x F P A f1 l a1 b hl hh (by rw [e3, e1]; exact hT) (by rw [e3]; exact g2)
  rw [e3, e1] at k2
  refine ⟨f1, a1, f2, a2, z, g1, k1, ?_, g3.tr k3, fun j hj => (k4 j hj).trans (g4 j hj)⟩
  rcases r with e | t
  · exact k2
  · exact k2
theorem m_con33 (x : Nat) (F : Nat → Int) (P : Nat → Option Nat) (A : Nat → Int → Int) (f l : Nat → Int) (a : Nat → Int → Int) (b : fk_M) (g : Nat → Nat) (hC : Cn x b g) {r : Except Er Tkn} (hT : Tx8 (a 1) (f 3)) (hM : MS (f 3) f a r) (z0 : Int32) {p : Int} (hp' : ∀ t, r = .ok t → z0 = ii p ∧ 0 ≤ p ∧ p < 5) : ∃ f' a', f_X2_contractLine_J33 g (some (x + 8)) z0 (hp x F P A f l a b) = some (hp x F P A f' l a' b) ∧ MP (f 3) f' a' (r.bind fun t => (aPt (a 1) (f 3) (kw 22) 1 9 (aOn (a 1) (f 3) t)).bind fun v => .ok (v.2, su1 (su1 (a 16) (13 + p) v.1) 3 (a 16 3 + 1), a 18)) ∧ FrF f f' ∧ FrA a a' := by
  unfold f_X2_contractLine_J33
  obtain ⟨f1, a1, f4, a4, z, g1, k1, k2, hfr, hfa, -⟩ := m_pA x F P A f l a b g hC hT hM (lo := 1) (hi := 9) (by omega) (by omega) (i := 38) (by omega)
  obtain ⟨v, rfl, k5, k6⟩ := k2.pk
  have hbad : ∀ e : Er, f4 13 = 1 ∧ f4 9 = e.1 ∧ f4 10 = e.2 → ∃ f' a', ((isO (hp x F P A f l a b) (some (x + 8)) 1).bind fun u1 => (f_X2_pass (some (x + 8)) (hp x F P A f l a b)).bind fun m2 => (isO m2 (some (x + 8)) 1).bind fun u3 => bn2 (f_X2_after g (some (x + 8)) (some (g 38)) 1 9 m2) fun z4 m5 => (gI m5 (some (x + 8)) 1 13).bind fun z6 => if z6 = 0 then ((gR m5 (some (x + 8)) 1 16).bind fun z7 => (sI m5 z7 0 (13 + z0) z4).bind fun m8 => (gR m8 (some (x + 8)) 1 16).bind fun z9 => (aI m8 z9 0 3).bind fun z10 => (sI m8 z9 0 3 (z10 + 1)).bind fun m11 => some m11) else (some m5)) = some (hp x F P A f' l a' b) ∧ MP (f 3) f' a' (.error e) ∧ FrF f f' ∧ FrA a a' := by
    intro e he
    refine ⟨f4, a4, ?_, he, hfr, fun j j1 _ _ => hfa j j1⟩
    rw [ok1, Option.bind_some, g1, Option.bind_some, ok1, Option.bind_some, show (1 : Int32) = ii 1 from rfl, show (9 : Int32) = ii 9 from rfl, k1, bn2_some, gm13, Option.bind_some, he.1, if_neg (show ¬ ii 1 = 0 by decide)]
  rcases r with e | t
  · exact hbad e (k6 e rfl)
  · obtain ⟨rfl, p0, p1⟩ := hp' t rfl
    show ∃ f' a', _ ∧ MP (f 3) f' a' ((aPt (a 1) (f 3) (kw 22) 1 9 (aOn (a 1) (f 3) t)).bind _) ∧ _
    have k5 : ∀ t', aPt (a 1) (f 3) (kw 22) 1 9 (aOn (a 1) (f 3) t) = .ok t' → t'.1 = v ∧ f4 13 = 0 ∧ TokM f4 a4 t'.2 ∧ Tok8 (f 3) t'.2 := k5
    have k6 : ∀ e, aPt (a 1) (f 3) (kw 22) 1 9 (aOn (a 1) (f 3) t) = .error e → f4 13 = 1 ∧ f4 9 = e.1 ∧ f4 10 = e.2 := k6
    rcases hw : aPt (a 1) (f 3) (kw 22) 1 9 (aOn (a 1) (f 3) t) with e | u
    · exact hbad e (k6 e hw)
    · obtain ⟨m1, m2, m3, m4⟩ := k5 u hw
      have h16 : a4 16 = a 16 := hfa 16 (by omega)
      have h3 : u2 a4 16 (13 + p) v 16 3 = a 16 3 := by rw [u2_ni _ _ _ (by omega), h16]
      refine ⟨f4, u2 (u2 a4 16 (13 + p) v) 16 3 (a 16 3 + 1), ?_, ⟨m2, m3.cg ((u2_nk _ _ _ (by omega)).trans (u2_nk _ _ _ (by omega))), m4, ?_, ?_⟩, hfr, fun j j1 j2 j3 => (u2_nk _ _ _ j2).trans ((u2_nk _ _ _ j2).trans (hfa j j1))⟩
      · rw [ok1, Option.bind_some, g1, Option.bind_some, ok1, Option.bind_some, show (1 : Int32) = ii 1 from rfl, show (9 : Int32) = ii 9 from rfl, k1, bn2_some, gm13, Option.bind_some, m2, if_pos (show ii 0 = 0 from rfl), gm16, Option.bind_some, show (13 : Int32) = ii 13 from rfl, ii_add, sm16 x F P A f4 l a4 b v (by omega) (by omega), Option.bind_some, gm16, Option.bind_some, show (3 : Int32) = ii 3 from rfl, rm16 x F P A f4 l _ b (by omega) (by omega), Option.bind_some, h3, ii_add, sm16 x F P A f4 l _ b _ (by omega) (by omega), Option.bind_some]
      · rw [u2_su1, u2_su1, h16, m1]
      · rw [u2_nk _ _ _ (by omega), u2_nk _ _ _ (by omega), hfa 18 (by omega)]
theorem aKn_rg {φ : Int → Int} {t : Tkn} {k : Int × Tkn} (h : aKn φ t = .ok k) : (0 ≤ k.1 ∧ k.1 < 5) ∧ k.2 = t ∧ k.1 = fnd φ t.2.2.2.2 ∧ isNm t := by
  unfold aKn at h
  have := fnd_rg φ t.2.2.2.2
  split at h
  · split at h
    · cases h
      exact ⟨⟨by assumption, this.2⟩, rfl, rfl, by assumption⟩
    · cases h
  · cases h
theorem m_contractLine (x : Nat) (F : Nat → Int) (P : Nat → Option Nat) (A : Nat → Int → Int) (f l : Nat → Int) (a : Nat → Int → Int) (b : fk_M) (g : Nat → Nat) (hC : Cn x b g) {t : Tkn} (hT : Tx8 (a 1) (f 3)) (hW : Wf (a 16) (a 18)) (hM : MS (f 3) f a (.ok t)) : ∃ f' a', f_X2_contractLine g (some (x + 8)) (hp x F P A f l a b) = some (hp x F P A f' l a' b) ∧ MP (f 3) f' a' (aCon (a 1) (f 3) (t, a 16, a 18)) ∧ FrF f f' ∧ FrA a a' := by
  unfold f_X2_contractLine aCon
  obtain ⟨f1, z, g1, g2, g3⟩ := m_pairHere x F P A f l a b g hC hW.1 hM
  have e3 := g3.e3
  have g2 : MV (f 3) f1 a z (aKn (a 16) t) := g2
  rw [ok1, Option.bind_some, g1, bn2_some, gm13, Option.bind_some]
  dsimp only
  rcases hk : aKn (a 16) t with e | k
  · rw [hk] at g2
    obtain ⟨f2, a2, n1, n2, n3, n4⟩ := m_con33 x F P A f1 l a b g hC (r := .error e) (by rw [e3]; exact hT) (by rw [e3]; exact g2) z (p := 0) (fun t h => by cases h)
    refine ⟨f2, a2, ?_, n2, g3.tr n3, n4⟩
    rw [g2.1, if_neg (show ¬ ii 1 = 0 by decide)]
    exact n1
  · rw [hk] at g2
    obtain ⟨hz, m1, m2, m3⟩ := g2
    obtain ⟨⟨p0, p1⟩, hk2, -, -⟩ := aKn_rg hk
    subst hz
    have hφ := hW.1 (13 + k.1) (by omega) (by omega)
    show ∃ f' a', _ ∧ MP (f 3) f' a' (if a 16 (13 + k.1) ≤ 0 then _ else _) ∧ _
    rw [m1, if_pos (show ii 0 = 0 from rfl), gm16, Option.bind_some, show (13 : Int32) = ii 13 from rfl, ii_add, rm16 x F P A f1 l a b (by omega) (by omega), Option.bind_some]
    by_cases hc : a 16 (13 + k.1) ≤ 0
    · obtain ⟨f2, a2, n1, n2, n3, n4⟩ := m_con33 x F P A f1 l a b g hC (r := .ok k.2) (by rw [e3]; exact hT) (by rw [e3]; exact ⟨m1, m2, m3⟩) (ii k.1) (p := k.1) (fun t h => ⟨rfl, p0, p1⟩)
      rw [e3] at n2
      rw [if_pos hc, if_pos (show ii (a 16 (13 + k.1)) ≤ 0 by rw [show (0 : Int32) = ii 0 from rfl, ii_le (by omega) (by omega)]; exact hc)]
      exact ⟨f2, a2, n1, n2, g3.tr n3, n4⟩
    · have wf3 : wf f1 3 k.2.2.1 3 = f 3 := (wf_Fr f1 3 k.2.2.1).e3.trans e3
      obtain ⟨f2, a2, n1, n2, n3, n4⟩ := m_con33 x F P A (wf f1 3 k.2.2.1) l a b g hC (r := .error (3, k.2.2.1)) (by rw [wf3]; exact hT) (by rw [wf3]; exact wf_MS (f 3) f1 a 3 k.2.2.1) (ii k.1) (p := k.1) (fun t h => by cases h)
      rw [if_neg hc, if_neg (show ¬ ii (a 16 (13 + k.1)) ≤ 0 by rw [show (0 : Int32) = ii 0 from rfl, ii_le (by omega) (by omega)]; exact hc)]
      refine ⟨f2, a2, ?_, n2, (g3.tr (wf_Fr f1 3 k.2.2.1)).tr n3, n4⟩
      rw [gm4, Option.bind_some, m2.1, ok1, Option.bind_some, show (3 : Int32) = ii 3 from rfl, m_wrong0 x F P A f1 l a b m1, Option.bind_some]
      exact n1
theorem m_debt51 (x : Nat) (F : Nat → Int) (P : Nat → Option Nat) (A : Nat → Int → Int) (f l : Nat → Int) (a : Nat → Int → Int) (b : fk_M) (g : Nat → Nat) {r : Except Er Tkn} (hT : Tx8 (a 1) (f 3)) (hM : MS (f 3) f a r) (z1 z2 : Int32) {p q : Int} (hp' : ∀ t, r = .ok t → z1 = ii p ∧ z2 = ii q ∧ (0 ≤ p ∧ p < 5) ∧ (0 ≤ q ∧ q < 5)) : ∃ f' a', f_X2_debtLine_J51 g (some (x + 8)) z1 z2 (hp x F P A f l a b) = some (hp x F P A f' l a' b) ∧ MP (f 3) f' a' (r.bind fun t => (aWh (a 1) (f 3) 1 99 (aOn (a 1) (f 3) t)).bind fun v => .ok (v.2, su1 (a 16) 4 (a 16 4 + 1), su1 (a 18) (10 + 5 * p + q) v.1)) ∧ FrF f f' ∧ FrA a a' := by
  unfold f_X2_debtLine_J51
  obtain ⟨f1, a1, f4, a4, z, g1, k1, k2, hfr, hfa⟩ := m_pN x F P A f l a b hT hM (lo := 1) (hi := 99) (by omega) (by omega)
  obtain ⟨v, rfl, k5, k6⟩ := k2.pk
  have hbad : ∀ e : Er, f4 13 = 1 ∧ f4 9 = e.1 ∧ f4 10 = e.2 → ∃ f' a', ((isO (hp x F P A f l a b) (some (x + 8)) 1).bind fun u1 => (f_X2_pass (some (x + 8)) (hp x F P A f l a b)).bind fun m2 => (isO m2 (some (x + 8)) 1).bind fun u3 => bn2 (f_X2_number (some (x + 8)) 1 99 m2) fun z4 m5 => (gI m5 (some (x + 8)) 1 13).bind fun z6 => if z6 = 0 then ((gR m5 (some (x + 8)) 1 18).bind fun z7 => (sI m5 z7 0 ((10 + (5 * z1)) + z2) z4).bind fun m8 => (gR m8 (some (x + 8)) 1 16).bind fun z9 => (aI m8 z9 0 4).bind fun z10 => (sI m8 z9 0 4 (z10 + 1)).bind fun m11 => some m11) else (some m5)) = some (hp x F P A f' l a' b) ∧ MP (f 3) f' a' (.error e) ∧ FrF f f' ∧ FrA a a' := by
    intro e he
    refine ⟨f4, a4, ?_, he, hfr, fun j j1 _ _ => hfa j j1⟩
    rw [ok1, Option.bind_some, g1, Option.bind_some, ok1, Option.bind_some, show (1 : Int32) = ii 1 from rfl, show (99 : Int32) = ii 99 from rfl, k1, bn2_some, gm13, Option.bind_some, he.1, if_neg (show ¬ ii 1 = 0 by decide)]
  rcases r with e | t
  · exact hbad e (k6 e rfl)
  · obtain ⟨rfl, rfl, ⟨p0, p1⟩, q0, q1⟩ := hp' t rfl
    show ∃ f' a', _ ∧ MP (f 3) f' a' ((aWh (a 1) (f 3) 1 99 (aOn (a 1) (f 3) t)).bind _) ∧ _
    have k5 : ∀ t', aWh (a 1) (f 3) 1 99 (aOn (a 1) (f 3) t) = .ok t' → t'.1 = v ∧ f4 13 = 0 ∧ TokM f4 a4 t'.2 ∧ Tok8 (f 3) t'.2 := k5
    have k6 : ∀ e, aWh (a 1) (f 3) 1 99 (aOn (a 1) (f 3) t) = .error e → f4 13 = 1 ∧ f4 9 = e.1 ∧ f4 10 = e.2 := k6
    rcases hw : aWh (a 1) (f 3) 1 99 (aOn (a 1) (f 3) t) with e | u
    · exact hbad e (k6 e hw)
    · obtain ⟨m1, m2, m3, m4⟩ := k5 u hw
      have h16 : a4 16 = a 16 := hfa 16 (by omega)
      have h4 : u2 a4 18 (10 + 5 * p + q) v 16 4 = a 16 4 := by rw [u2_nk _ _ _ (by omega), h16]
      refine ⟨f4, u2 (u2 a4 18 (10 + 5 * p + q) v) 16 4 (a 16 4 + 1), ?_, ⟨m2, m3.cg ((u2_nk _ _ _ (by omega)).trans (u2_nk _ _ _ (by omega))), m4, ?_, ?_⟩, hfr, fun j j1 j2 j3 => (u2_nk _ _ _ j2).trans ((u2_nk _ _ _ j3).trans (hfa j j1))⟩
      · rw [ok1, Option.bind_some, g1, Option.bind_some, ok1, Option.bind_some, show (1 : Int32) = ii 1 from rfl, show (99 : Int32) = ii 99 from rfl, k1, bn2_some, gm13, Option.bind_some, m2, if_pos (show ii 0 = 0 from rfl), gm18, Option.bind_some, show (10 : Int32) = ii 10 from rfl, show (5 : Int32) = ii 5 from rfl, ii_mul, ii_add, ii_add, sm18 x F P A f4 l a4 b v (by omega) (by omega), Option.bind_some, gm16, Option.bind_some, show (4 : Int32) = ii 4 from rfl, rm16 x F P A f4 l _ b (by omega) (by omega), Option.bind_some, h4, ii_add, sm16 x F P A f4 l _ b _ (by omega) (by omega), Option.bind_some]
      · rw [u2_su1, u2_nk _ _ _ (by omega), h16]
      · rw [u2_nk _ _ _ (by omega), u2_su1, hfa 18 (by omega), m1]
theorem m_debtLine (x : Nat) (F : Nat → Int) (P : Nat → Option Nat) (A : Nat → Int → Int) (f l : Nat → Int) (a : Nat → Int → Int) (b : fk_M) (g : Nat → Nat) (hC : Cn x b g) {t : Tkn} (hT : Tx8 (a 1) (f 3)) (hW : Wf (a 16) (a 18)) (hM : MS (f 3) f a (.ok t)) : ∃ f' a', f_X2_debtLine g (some (x + 8)) (hp x F P A f l a b) = some (hp x F P A f' l a' b) ∧ MP (f 3) f' a' (aDebt (a 1) (f 3) (t, a 16, a 18)) ∧ FrF f f' ∧ FrA a a' := by
  unfold f_X2_debtLine f_X2_debtLine_J42 aDebt
  obtain ⟨f1, z, g1, g2, g3⟩ := m_pairHere x F P A f l a b g hC hW.1 hM
  have e3 := g3.e3
  have g2 : MV (f 3) f1 a z (aKn (a 16) t) := g2
  obtain ⟨f2, a2, k1, k2, k3, k4⟩ := m_pass x F P A f1 l a b (r := (aKn (a 16) t).map Prod.snd) (by rw [e3]; exact hT) (by rw [e3]; exact g2.ms)
  rw [e3] at k2
  have e32 : f2 3 = f 3 := k3.e3.trans e3
  have a16 : a2 16 = a 16 := k4 16 (by omega)
  have a18 : a2 18 = a 18 := k4 18 (by omega)
  have a21 : a2 1 = a 1 := k4 1 (by omega)
  obtain ⟨f3, z2, n1, n2, n3⟩ := m_pairHere x F P A f2 l a2 b g hC (by rw [a16]; exact hW.1) (by rw [e32]; exact k2)
  rw [e32, a16] at n2
  have e33 : f3 3 = f 3 := n3.e3.trans e32
  have hfr : FrF f f3 := (g3.tr k3).tr n3
  have hT3 : Tx8 (a2 1) (f3 3) := by rw [e33, a21]; exact hT
  rw [ok1, Option.bind_some, g1, bn2_some, ok1, Option.bind_some, k1, Option.bind_some, ok1, Option.bind_some, n1, bn2_some, gm13, Option.bind_some]
  dsimp only
  have hFA : ∀ a', FrA a2 a' → FrA a a' := fun a' h j j1 j2 j3 => (h j j1 j2 j3).trans (k4 j j1)
  have hbad : ∀ e : Er, (f3 13 = 1 ∧ f3 9 = e.1 ∧ f3 10 = e.2) → ∃ f' a', (if ii (f3 13) = 0 then (if z = z2 then ((gI (hp x F P A f3 l a2 b) (some (x + 8)) 1 4).bind fun z1 => (isO (hp x F P A f3 l a2 b) (some (x + 8)) 1).bind fun u2 => (f_X2_wrong (some (x + 8)) 3 z1 (hp x F P A f3 l a2 b)).bind fun m3 => f_X2_debtLine_J51 g (some (x + 8)) z z2 m3) else ((gR (hp x F P A f3 l a2 b) (some (x + 8)) 1 18).bind fun z10 => (aI (hp x F P A f3 l a2 b) z10 0 ((10 + (5 * z)) + z2)).bind fun z11 => if z11 ≤ 0 then (f_X2_debtLine_J51 g (some (x + 8)) z z2 (hp x F P A f3 l a2 b)) else ((gI (hp x F P A f3 l a2 b) (some (x + 8)) 1 4).bind fun z1 => (isO (hp x F P A f3 l a2 b) (some (x + 8)) 1).bind fun u2 => (f_X2_wrong (some (x + 8)) 3 z1 (hp x F P A f3 l a2 b)).bind fun m3 => f_X2_debtLine_J51 g (some (x + 8)) z z2 m3))) else (f_X2_debtLine_J51 g (some (x + 8)) z z2 (hp x F P A f3 l a2 b))) = some (hp x F P A f' l a' b) ∧ MP (f 3) f' a' (.error e) ∧ FrF f f' ∧ FrA a a' := by
    intro e he
    obtain ⟨f4, a4, q1, q2, q3, q4⟩ := m_debt51 x F P A f3 l a2 b g (r := .error e) hT3 (by rw [e33]; exact he) z z2 (p := 0) (q := 0) (fun t h => by cases h)
    refine ⟨f4, a4, ?_, q2, hfr.tr q3, hFA a4 q4⟩
    rw [he.1, if_neg (show ¬ ii 1 = 0 by decide)]
    exact q1
  rcases hk : aKn (a 16) t with e | k
  · rw [hk] at n2
    exact hbad e n2
  · rw [hk] at g2 n2
    show ∃ f' a', _ ∧ MP (f 3) f' a' ((aKn (a 16) (aOn (a 1) (f 3) k.2)).bind _) ∧ _
    have n2 : MV (f 3) f3 a2 z2 (aKn (a 16) (aOn (a 1) (f 3) k.2)) := n2
    rcases hq : aKn (a 16) (aOn (a 1) (f 3) k.2) with e | q
    · rw [hq] at n2
      exact hbad e n2
    · rw [hq] at n2
      obtain ⟨hz2, m1, m2, m3⟩ := n2
      obtain ⟨⟨p0, p1⟩, -, -, -⟩ := aKn_rg hk
      obtain ⟨⟨q0, q1⟩, -, -, -⟩ := aKn_rg hq
      have hz := g2.1
      subst hz2
      subst hz
      have hψ := hW.2.1 (10 + 5 * k.1 + q.1) (by omega) (by omega)
      show ∃ f' a', _ ∧ MP (f 3) f' a' (if k.1 = q.1 ∨ 0 < a 18 (10 + 5 * k.1 + q.1) then _ else _) ∧ _
      rw [m1, if_pos (show ii 0 = 0 from rfl)]
      have wf3 : wf f3 3 q.2.2.1 3 = f 3 := (wf_Fr f3 3 q.2.2.1).e3.trans e33
      have hwr : ∃ f' a', ((gI (hp x F P A f3 l a2 b) (some (x + 8)) 1 4).bind fun z1 => (isO (hp x F P A f3 l a2 b) (some (x + 8)) 1).bind fun u2 => (f_X2_wrong (some (x + 8)) 3 z1 (hp x F P A f3 l a2 b)).bind fun m3 => f_X2_debtLine_J51 g (some (x + 8)) (ii k.1) (ii q.1) m3) = some (hp x F P A f' l a' b) ∧ MP (f 3) f' a' (.error (3, q.2.2.1)) ∧ FrF f f' ∧ FrA a a' := by
        obtain ⟨f4, a4, s1, s2, s3, s4⟩ := m_debt51 x F P A (wf f3 3 q.2.2.1) l a2 b g (r := .error (3, q.2.2.1)) (by rw [wf3, a21]; exact hT) (by rw [wf3]; exact wf_MS (f 3) f3 a2 3 q.2.2.1) (ii k.1) (ii q.1) (p := 0) (q := 0) (fun t h => by cases h)
        refine ⟨f4, a4, ?_, s2, (hfr.tr (wf_Fr f3 3 q.2.2.1)).tr s3, hFA a4 s4⟩
        rw [gm4, Option.bind_some, m2.1, ok1, Option.bind_some, show (3 : Int32) = ii 3 from rfl, m_wrong0 x F P A f3 l a2 b m1, Option.bind_some]
        exact s1
      by_cases hpq : k.1 = q.1
      · rw [if_pos (show ii k.1 = ii q.1 by rw [hpq]), if_pos (Or.inl hpq)]
        exact hwr
      rw [if_neg (show ¬ ii k.1 = ii q.1 by rw [ii_eq (by omega) (by omega)]; exact hpq), gm18, Option.bind_some, show (10 : Int32) = ii 10 from rfl, show (5 : Int32) = ii 5 from rfl, ii_mul, ii_add, ii_add, rm18 x F P A f3 l a2 b (by omega) (by omega), Option.bind_some, a18]
      by_cases hc : a 18 (10 + 5 * k.1 + q.1) ≤ 0
      · rw [if_pos (show ii (a 18 (10 + 5 * k.1 + q.1)) ≤ 0 by rw [show (0 : Int32) = ii 0 from rfl, ii_le (by omega) (by omega)]; exact hc), if_neg (show ¬ (k.1 = q.1 ∨ 0 < a 18 (10 + 5 * k.1 + q.1)) by omega)]
        obtain ⟨f4, a4, s1, s2, s3, s4⟩ := m_debt51 x F P A f3 l a2 b g (r := .ok q.2) hT3 (by rw [e33]; exact ⟨m1, m2, m3⟩) (ii k.1) (ii q.1) (p := k.1) (q := q.1) (fun t h => ⟨rfl, rfl, ⟨p0, p1⟩, q0, q1⟩)
        rw [e33, a21, a16, a18] at s2
        exact ⟨f4, a4, s1, s2, hfr.tr s3, hFA a4 s4⟩
      · rw [if_neg (show ¬ ii (a 18 (10 + 5 * k.1 + q.1)) ≤ 0 by rw [show (0 : Int32) = ii 0 from rfl, ii_le (by omega) (by omega)]; exact hc), if_pos (show k.1 = q.1 ∨ 0 < a 18 (10 + 5 * k.1 + q.1) from Or.inr (by omega))]
        exact hwr
