/-! PLAIN 44: the model reads a line -/
set_option maxRecDepth 100000
theorem m_beg43 (x : Nat) (F : Nat → Int) (P : Nat → Option Nat) (A : Nat → Int → Int) (f l : Nat → Int) (a : Nat → Int → Int) (b : fk_M) (g : Nat → Nat) {r : Except Er Tkn} (hT : Tx8 (a 1) (f 3)) (hM : MS (f 3) f a r) : ∃ f' a', f_X2_begins_J43 g (some (x + 8)) (hp x F P A f l a b) = some (1, hp x F P A f' l a' b) ∧ MS (f 3) f' a' (r.map (aOn (a 1) (f 3))) ∧ FrF f f' ∧ Fr12 a a' := by
  obtain ⟨f', a', g1, g2, g3, g4⟩ := m_pass x F P A f l a b hT hM
  refine ⟨f', a', ?_, g2, g3, g4⟩
  unfold f_X2_begins_J43
  rw [ok1, Option.bind_some, g1, Option.bind_some]
theorem m_begins (x : Nat) (F : Nat → Int) (P : Nat → Option Nat) (A : Nat → Int → Int) (f l : Nat → Int) (a : Nat → Int → Int) (b : fk_M) (g : Nat → Nat) (hC : Cn x b g) {t : Tkn} (hT : Tx8 (a 1) (f 3)) (hW : Wf (a 16) (a 18)) (hM : MS (f 3) f a (.ok t)) {i : Nat} (hi : i < 40) (c : Prop) [Decidable c] (w : Int32) (hw : w = if c then 1 else 0) : (¬ isW t (kw i) → f_X2_begins g (some (x + 8)) (some (g i)) w (hp x F P A f l a b) = some (0, (hp x F P A f l a b))) ∧ (isW t (kw i) → ∃ f' a', f_X2_begins g (some (x + 8)) (some (g i)) w (hp x F P A f l a b) = some (1, hp x F P A f' l a' b) ∧ MP (f 3) f' a' (aBeg (a 1) (f 3) c (t, a 16, a 18)) ∧ FrF f f' ∧ Fr12 a a') := by
  obtain ⟨h1, h2, h3⟩ := hM
  have h7 := hW.2.2.2.2.2.2.2.2
  unfold f_X2_begins
  rw [ok1, Option.bind_some, m_isWord x F P A f l a b g hC h1 h2 h3 hi, Option.bind_some]
  refine ⟨fun hn => by rw [if_neg hn, if_pos (show ii 0 = 0 from rfl)], fun hy => ?_⟩
  rw [if_pos hy, if_neg (show ¬ ii 1 = 0 by decide)]
  unfold aBeg
  have er : ∀ k : Int, wf f k t.2.1 3 = f 3 := fun k => (wf_Fr f k t.2.1).e3
  by_cases hc : c
  · rw [if_pos hc, hw, if_pos hc, if_neg (show ¬ (1 : Int32) = 0 by decide)]
    unfold f_X2_begins_J23
    rw [gm16, Option.bind_some, show (7 : Int32) = ii 7 from rfl, rm16 x F P A f l a b (by omega) (by omega), Option.bind_some]
    dsimp only
    by_cases h70 : a 16 7 = 0
    · obtain ⟨f', a', g1, g2, g3, g4⟩ := m_beg43 x F P A (wf f 6 t.2.1) l a b g (r := .error (6, t.2.1)) (by rw [er]; exact hT) (by rw [er]; exact wf_MS (f 3) f a 6 t.2.1)
      rw [if_pos h70, h70, if_pos (show ii 0 = 0 from rfl), gm4, Option.bind_some, ok1, Option.bind_some, h2.1, show (6 : Int32) = ii 6 from rfl, m_wrong0 x F P A f l a b h1, Option.bind_some]
      exact ⟨f', a', g1, g2, (wf_Fr f 6 t.2.1).tr g3, g4⟩
    · obtain ⟨f', a', g1, g2, g3, g4⟩ := m_beg43 x F P A f l a b g (r := .ok t) hT ⟨h1, h2, h3⟩
      rw [if_neg h70, if_neg (show ¬ ii (a 16 7) = 0 by rw [show (0 : Int32) = ii 0 from rfl, ii_eq (by omega) (by omega)]; exact h70)]
      exact ⟨f', a', g1, ⟨g2.1, g2.2.1, g2.2.2, g4 16 (by omega), g4 18 (by omega)⟩, g3, g4⟩
  · rw [if_neg hc, hw, if_neg hc, if_pos rfl, gm4, Option.bind_some, Option.bind_some, h2.1, show (5 : Int32) = ii 5 from rfl, m_wrong0 x F P A f l a b h1, Option.bind_some]
    obtain ⟨f', a', g1, g2, g3, g4⟩ := m_beg43 x F P A (wf f 5 t.2.1) l a b g (r := .error (5, t.2.1)) (by rw [er]; exact hT) (by rw [er]; exact wf_MS (f 3) f a 5 t.2.1)
    refine ⟨f', a', ?_, g2, (wf_Fr f 5 t.2.1).tr g3, g4⟩
    unfold f_X2_begins_J23
    rw [gm16, Option.bind_some, show (7 : Int32) = ii 7 from rfl, rm16 x F P A (wf f 5 t.2.1) l a b (by omega) (by omega), Option.bind_some]
    split
    · rw [gm4, Option.bind_some, ok1, Option.bind_some, m_wrong1 x F P A (wf f 5 t.2.1) l a b (wf_MS (f 3) f a 5 t.2.1).1, Option.bind_some]
      exact g1
    · exact g1
/-! lines after a failure -/
theorem m_pairE (x : Nat) (F : Nat → Int) (P : Nat → Option Nat) (A : Nat → Int → Int) (f l : Nat → Int) (a : Nat → Int → Int) (b : fk_M) (g : Nat → Nat) (h : f 13 = 1) : f_X2_pairLine g (some (x + 8)) (hp x F P A f l a b) = some (hp x F P A f l a b) := by
  unfold f_X2_pairLine
  rw [gm13, Option.bind_some, h, if_neg (show ¬ ii 1 = 0 by decide)]
theorem m_unsureE (x : Nat) (F : Nat → Int) (P : Nat → Option Nat) (A : Nat → Int → Int) (f l : Nat → Int) (a : Nat → Int → Int) (b : fk_M) (g : Nat → Nat) (h : f 13 = 1) : f_X2_unsureLine g (some (x + 8)) (hp x F P A f l a b) = some (hp x F P A f l a b) := by
  unfold f_X2_unsureLine
  rw [gm13, Option.bind_some, h, if_neg (show ¬ ii 1 = 0 by decide)]
theorem m_heardE (x : Nat) (F : Nat → Int) (P : Nat → Option Nat) (A : Nat → Int → Int) (f l : Nat → Int) (a : Nat → Int → Int) (b : fk_M) (g : Nat → Nat) (h : f 13 = 1) : f_X2_heardLine g (some (x + 8)) (hp x F P A f l a b) = some (hp x F P A f l a b) := by
  unfold f_X2_heardLine
  rw [gm13, Option.bind_some, h, if_neg (show ¬ ii 1 = 0 by decide)]
theorem m_contractE (x : Nat) (F : Nat → Int) (P : Nat → Option Nat) (A : Nat → Int → Int) (f l : Nat → Int) (a : Nat → Int → Int) (b : fk_M) (g : Nat → Nat) (hC : Cn x b g) {e : Er} (hT : Tx8 (a 1) (f 3)) (hP : Ph (a 16)) (hM : MS (f 3) f a (.error e)) : ∃ f' a', f_X2_contractLine g (some (x + 8)) (hp x F P A f l a b) = some (hp x F P A f' l a' b) ∧ MP (f 3) f' a' (.error e) ∧ FrF f f' ∧ FrA a a' := by
  unfold f_X2_contractLine
  obtain ⟨f1, z, g1, g2, g3⟩ := m_pairHere x F P A f l a b g hC hP hM
  have e3 := g3.e3
  have g2 : f1 13 = 1 ∧ f1 9 = e.1 ∧ f1 10 = e.2 := g2
  obtain ⟨f2, a2, n1, n2, n3, n4⟩ := m_con33 x F P A f1 l a b g hC (r := .error e) (by rw [e3]; exact hT) (by rw [e3]; exact g2) z (p := 0) (fun t h => by cases h)
  rw [ok1, Option.bind_some, g1, bn2_some, gm13, Option.bind_some]
  refine ⟨f2, a2, ?_, n2, g3.tr n3, n4⟩
  rw [g2.1, if_neg (show ¬ ii 1 = 0 by decide)]
  exact n1
theorem m_debtE (x : Nat) (F : Nat → Int) (P : Nat → Option Nat) (A : Nat → Int → Int) (f l : Nat → Int) (a : Nat → Int → Int) (b : fk_M) (g : Nat → Nat) (hC : Cn x b g) {e : Er} (hT : Tx8 (a 1) (f 3)) (hP : Ph (a 16)) (hM : MS (f 3) f a (.error e)) : ∃ f' a', f_X2_debtLine g (some (x + 8)) (hp x F P A f l a b) = some (hp x F P A f' l a' b) ∧ MP (f 3) f' a' (.error e) ∧ FrF f f' ∧ FrA a a' := by
  unfold f_X2_debtLine
  obtain ⟨f1, z, g1, g2, g3⟩ := m_pairHere x F P A f l a b g hC hP hM
  have e3 := g3.e3
  have g2 : f1 13 = 1 ∧ f1 9 = e.1 ∧ f1 10 = e.2 := g2
  obtain ⟨f2, a2, k1, k2, k3, k4⟩ := m_pass x F P A f1 l a b (r := .error e) (by rw [e3]; exact hT) (by rw [e3]; exact g2)
  have e32 : f2 3 = f 3 := k3.e3.trans e3
  have a16 : a2 16 = a 16 := k4 16 (by omega)
  have a21 : a2 1 = a 1 := k4 1 (by omega)
  have k2 : f2 13 = 1 ∧ f2 9 = e.1 ∧ f2 10 = e.2 := k2
  obtain ⟨f3, z2, n1, n2, n3⟩ := m_pairHere x F P A f2 l a2 b g hC (r := .error e) (by rw [a16]; exact hP) (by rw [e32]; exact k2)
  have n2 : f3 13 = 1 ∧ f3 9 = e.1 ∧ f3 10 = e.2 := n2
  have e33 : f3 3 = f 3 := n3.e3.trans e32
  obtain ⟨f4, a4, q1, q2, q3, q4⟩ := m_debt51 x F P A f3 l a2 b g (r := .error e) (by rw [e33, a21]; exact hT) (by rw [e33]; exact n2) z z2 (p := 0) (q := 0) (fun t h => by cases h)
  rw [ok1, Option.bind_some, g1, bn2_some, ok1, Option.bind_some, k1, Option.bind_some, ok1, Option.bind_some, n1, bn2_some, gm13, Option.bind_some]
  refine ⟨f4, a4, ?_, q2, ((g3.tr k3).tr n3).tr q3, fun j j1 j2 j3 => (q4 j j1 j2 j3).trans (k4 j j1)⟩
  rw [n2.1, if_neg (show ¬ ii 1 = 0 by decide)]
  exact q1
theorem m_begL (x : Nat) (F : Nat → Int) (P : Nat → Option Nat) (A : Nat → Int → Int) (f l : Nat → Int) (a : Nat → Int → Int) (b : fk_M) (g : Nat → Nat) (hC : Cn x b g) {t : Tkn} (hT : Tx8 (a 1) (f 3)) (hW : Wf (a 16) (a 18)) (hM : MS (f 3) f a (.ok t)) {i : Nat} (hi : i < 40) (c : Prop) [Decidable c] (w : Int32) (hw : w = if c then 1 else 0) (L X : fk_M → Option fk_M) (al : Ls → Except Er Ls)
    (hok : ∀ f1 a1 t1, FrF f f1 → Fr12 a a1 → MS (f 3) f1 a1 (.ok t1) → c → ∃ f' a', L (hp x F P A f1 l a1 b) = some (hp x F P A f' l a' b) ∧ MP (f 3) f' a' (al (t1, a 16, a 18)) ∧ FrF f1 f' ∧ FrA a1 a')
    (her : ∀ f1 a1 e, FrF f f1 → Fr12 a a1 → MS (f 3) f1 a1 (.error e) → ∃ f' a', L (hp x F P A f1 l a1 b) = some (hp x F P A f' l a' b) ∧ MP (f 3) f' a' (.error e) ∧ FrF f1 f' ∧ FrA a1 a') :
    (¬ isW t (kw i) → (bn2 (f_X2_begins g (some (x + 8)) (some (g i)) w (hp x F P A f l a b)) fun z6 m7 => if z6 = 0 then X m7 else ((isO m7 (some (x + 8)) 1).bind fun u8 => (L m7).bind fun m9 => some m9)) = X (hp x F P A f l a b)) ∧ (isW t (kw i) → ∃ f' a', (bn2 (f_X2_begins g (some (x + 8)) (some (g i)) w (hp x F P A f l a b)) fun z6 m7 => if z6 = 0 then X m7 else ((isO m7 (some (x + 8)) 1).bind fun u8 => (L m7).bind fun m9 => some m9)) = some (hp x F P A f' l a' b) ∧ MP (f 3) f' a' ((aBeg (a 1) (f 3) c (t, a 16, a 18)).bind al) ∧ FrF f f' ∧ FrA a a') := by
  obtain ⟨b1, b2⟩ := m_begins x F P A f l a b g hC hT hW hM hi c w hw
  refine ⟨fun hn => by rw [b1 hn, bn2_some, if_pos rfl], fun hy => ?_⟩
  obtain ⟨f1, a1, g1, g2, g3, g4⟩ := b2 hy
  rw [g1, bn2_some, if_neg (show ¬ (1 : Int32) = 0 by decide), ok1, Option.bind_some]
  have hfa : ∀ a', FrA a1 a' → FrA a a' := fun a' h j j1 j2 j3 => (h j j1 j2 j3).trans (g4 j j1)
  rcases hb : aBeg (a 1) (f 3) c (t, a 16, a 18) with e | s
  · rw [hb] at g2
    obtain ⟨f2, a2, k1, k2, k3, k4⟩ := her f1 a1 e g3 g4 g2
    rw [k1, Option.bind_some]
    exact ⟨f2, a2, rfl, k2, g3.tr k3, hfa a2 k4⟩
  · rw [hb] at g2
    obtain ⟨m1, m2, m3, m4, m5⟩ := g2
    obtain ⟨-, hc, -, hs, -⟩ := aBeg_ok hT hM.2.2 hb
    obtain ⟨f2, a2, k1, k2, k3, k4⟩ := hok f1 a1 s.1 g3 g4 ⟨m1, m2, m3⟩ hc
    rw [k1, Option.bind_some]
    refine ⟨f2, a2, rfl, ?_, g3.tr k3, hfa a2 k4⟩
    have hs' : s = (s.1, a 16, a 18) := by rw [show (a 16, a 18) = s.2 from hs.symm]
    rw [hs']
    exact k2
theorem m_readLine (x : Nat) (F : Nat → Int) (P : Nat → Option Nat) (A : Nat → Int → Int) (f l : Nat → Int) (a : Nat → Int → Int) (b : fk_M) (g : Nat → Nat) (hC : Cn x b g) {t : Tkn} (hT : Tx8 (a 1) (f 3)) (hW : Wf (a 16) (a 18)) (hM : MS (f 3) f a (.ok t)) : ∃ f' a', f_X2_readLine g (some (x + 8)) (hp x F P A f l a b) = some (hp x F P A f' l a' b) ∧ MP (f 3) f' a' (aLine (a 1) (f 3) (t, a 16, a 18)) ∧ FrF f f' ∧ FrA a a' := by
  have hM' := hM
  obtain ⟨h1, h2, h3⟩ := hM
  have hW' := hW
  obtain ⟨w1, w2, w3, w4, w5, w6, w7, w8, w9⟩ := hW'
  unfold f_X2_readLine aLine
  rw [ok1, Option.bind_some, m_isWord x F P A f l a b g hC h1 h2 h3 (i := 24) (by omega), Option.bind_some, show kw 24 = kw 2 from rfl]
  dsimp only
  by_cases c2 : isW t (kw 2)
  · rw [if_pos c2, if_pos c2, if_neg (show ¬ ii 1 = 0 by decide), Option.bind_some]
    obtain ⟨f1, a1, g1, g2, g3, g4⟩ := m_pierLine x F P A f l a b g hC hT hW hM'
    rw [g1, Option.bind_some]
    exact ⟨f1, a1, rfl, g2, g3, g4⟩
  rw [if_neg c2, if_neg c2, if_pos (show ii 0 = 0 from rfl), gm16, Option.bind_some, show (2 : Int32) = ii 2 from rfl, rm16 x F P A f l a b (by omega) (by omega), Option.bind_some, Option.bind_some]
  have cg : ∀ {f1 : Nat → Int} {a1 : Nat → Int → Int}, FrF f f1 → Fr12 a a1 → Tx8 (a1 1) (f1 3) ∧ f1 3 = f 3 ∧ a1 1 = a 1 ∧ a1 16 = a 16 ∧ a1 18 = a 18 := fun {f1 a1} q1 q2 => ⟨by rw [q1.e3, q2 1 (by omega)]; exact hT, q1.e3, q2 1 (by omega), q2 16 (by omega), q2 18 (by omega)⟩
  obtain ⟨n3, y3⟩ := m_begL x F P A f l a b g hC hT hW hM' (i := 27) (by omega) (a 16 2 < 5) (if 5 ≤ ii (a 16 2) then (0 : Int32) else 1) (by
    by_cases hc : a 16 2 < 5
    · rw [if_pos hc, if_neg (by rw [show (5 : Int32) = ii 5 from rfl, ii_le (by omega) (by omega)]; omega)]
    · rw [if_neg hc, if_pos (by rw [show (5 : Int32) = ii 5 from rfl, ii_le (by omega) (by omega)]; omega)]) (f_X2_pairLine g (some (x + 8))) _ (aPair (a 1) (f 3)) (fun f1 a1 t1 q1 q2 q3 hc => by
      obtain ⟨e0, e1, e2, e3, e4⟩ := cg q1 q2
      have := m_pairLine x F P A f1 l a1 b g hC (t := t1) e0 (by rw [e3, e4]; exact hW) (by rw [e3]; exact hc) (by rw [e1]; exact q3)
      rw [e1, e2, e3, e4] at this
      exact this) (fun f1 a1 e q1 q2 q3 => ⟨f1, a1, m_pairE x F P A f1 l a1 b g q3.1, q3, FrF.rfl' f1, fun _ _ _ _ => rfl⟩)
  by_cases c3 : isW t (kw 3)
  · rw [if_pos c3]
    exact y3 c3
  rw [if_neg c3]
  refine (?_ : ∃ f' a', _ ∧ _)
  rw [n3 c3, ok1, Option.bind_some]
  obtain ⟨n4, y4⟩ := m_begL x F P A f l a b g hC hT hW hM' (i := 28) (by omega) True 1 (by rw [if_pos trivial]) (f_X2_contractLine g (some (x + 8))) _ (aCon (a 1) (f 3)) (fun f1 a1 t1 q1 q2 q3 hc => by
      obtain ⟨e0, e1, e2, e3, e4⟩ := cg q1 q2
      have := m_contractLine x F P A f1 l a1 b g hC (t := t1) e0 (by rw [e3, e4]; exact hW) (by rw [e1]; exact q3)
      rw [e1, e2, e3, e4] at this
      exact this) (fun f1 a1 e q1 q2 q3 => by
      obtain ⟨e0, e1, e2, e3, e4⟩ := cg q1 q2
      have := m_contractE x F P A f1 l a1 b g hC (e := e) e0 (by rw [e3]; exact hW.1) q3
      exact this)
  by_cases c4 : isW t (kw 4)
  · rw [if_pos c4]
    exact y4 c4
  rw [if_neg c4, n4 c4, gm16, Option.bind_some, show (4 : Int32) = ii 4 from rfl, rm16 x F P A f l a b (by omega) (by omega), Option.bind_some, ok1, Option.bind_some]
  obtain ⟨n5, y5⟩ := m_begL x F P A f l a b g hC hT hW hM' (i := 29) (by omega) (a 16 4 < 10) (if 10 ≤ ii (a 16 4) then (0 : Int32) else 1) (by
    by_cases hc : a 16 4 < 10
    · rw [if_pos hc, if_neg (by rw [show (10 : Int32) = ii 10 from rfl, ii_le (by omega) (by omega)]; omega)]
    · rw [if_neg hc, if_pos (by rw [show (10 : Int32) = ii 10 from rfl, ii_le (by omega) (by omega)]; omega)]) (f_X2_debtLine g (some (x + 8))) _ (aDebt (a 1) (f 3)) (fun f1 a1 t1 q1 q2 q3 hc => by
      obtain ⟨e0, e1, e2, e3, e4⟩ := cg q1 q2
      have := m_debtLine x F P A f1 l a1 b g hC (t := t1) e0 (by rw [e3, e4]; exact hW) (by rw [e1]; exact q3)
      rw [e1, e2, e3, e4] at this
      exact this) (fun f1 a1 e q1 q2 q3 => by
      obtain ⟨e0, e1, e2, e3, e4⟩ := cg q1 q2
      have := m_debtE x F P A f1 l a1 b g hC (e := e) e0 (by rw [e3]; exact hW.1) q3
      exact this)
  by_cases c5 : isW t (kw 5)
  · rw [if_pos c5]
    exact y5 c5
  rw [if_neg c5, n5 c5, gm16, Option.bind_some, show (5 : Int32) = ii 5 from rfl, rm16 x F P A f l a b (by omega) (by omega), Option.bind_some, ok1, Option.bind_some]
  obtain ⟨n6, y6⟩ := m_begL x F P A f l a b g hC hT hW hM' (i := 30) (by omega) (a 16 5 < 4) (if ii 4 ≤ ii (a 16 5) then (0 : Int32) else 1) (by
    by_cases hc : a 16 5 < 4
    · rw [if_pos hc, if_neg (by rw [ii_le (by omega) (by omega)]; omega)]
    · rw [if_neg hc, if_pos (by rw [ii_le (by omega) (by omega)]; omega)]) (f_X2_unsureLine g (some (x + 8))) _ (aUns (a 1) (f 3)) (fun f1 a1 t1 q1 q2 q3 hc => by
      obtain ⟨e0, e1, e2, e3, e4⟩ := cg q1 q2
      have := m_unsureLine x F P A f1 l a1 b g hC (t := t1) e0 (by rw [e3, e4]; exact hW) (by rw [e3]; exact hc) (by rw [e1]; exact q3)
      rw [e1, e2, e3, e4] at this
      exact this) (fun f1 a1 e q1 q2 q3 => ⟨f1, a1, m_unsureE x F P A f1 l a1 b g q3.1, q3, FrF.rfl' f1, fun _ _ _ _ => rfl⟩)
  by_cases c6 : isW t (kw 6)
  · rw [if_pos c6]
    exact y6 c6
  rw [if_neg c6, n6 c6, gm16, Option.bind_some, show (6 : Int32) = ii 6 from rfl, rm16 x F P A f l a b (by omega) (by omega), Option.bind_some, ok1, Option.bind_some]
  obtain ⟨n7, y7⟩ := m_begL x F P A f l a b g hC hT hW hM' (i := 31) (by omega) (a 16 6 < 8) (if 8 ≤ ii (a 16 6) then (0 : Int32) else 1) (by
    by_cases hc : a 16 6 < 8
    · rw [if_pos hc, if_neg (by rw [show (8 : Int32) = ii 8 from rfl, ii_le (by omega) (by omega)]; omega)]
    · rw [if_neg hc, if_pos (by rw [show (8 : Int32) = ii 8 from rfl, ii_le (by omega) (by omega)]; omega)]) (f_X2_heardLine g (some (x + 8))) _ (aHrd (a 1) (f 3)) (fun f1 a1 t1 q1 q2 q3 hc => by
      obtain ⟨e0, e1, e2, e3, e4⟩ := cg q1 q2
      have := m_heardLine x F P A f1 l a1 b g hC (t := t1) e0 (by rw [e3, e4]; exact hW) (by rw [e3]; exact hc) (by rw [e1]; exact q3)
      rw [e1, e2, e3, e4] at this
      exact this) (fun f1 a1 e q1 q2 q3 => ⟨f1, a1, m_heardE x F P A f1 l a1 b g q3.1, q3, FrF.rfl' f1, fun _ _ _ _ => rfl⟩)
  by_cases c7 : isW t (kw 7)
  · rw [if_pos c7]
    exact y7 c7
  rw [if_neg c7, n7 c7, gm4, Option.bind_some, ok1, Option.bind_some, h2.1, show (1 : Int32) = ii 1 from rfl, m_wrong0 x F P A f l a b h1, Option.bind_some]
  exact ⟨wf f 1 t.2.1, a, rfl, wf_MS (f 3) f a 1 t.2.1, wf_Fr f 1 t.2.1, fun _ _ _ _ => rfl⟩
