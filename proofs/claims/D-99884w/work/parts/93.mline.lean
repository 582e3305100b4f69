/-! PLAIN 38: lines, and the model's -/
set_option maxRecDepth 100000
abbrev Ls : Type := Tkn × (Int → Int) × (Int → Int)
def MP (n : Int) (f : Nat → Int) (a : Nat → Int → Int) (r : Except Er Ls) : Prop := match r with
  | .ok s => f 13 = 0 ∧ TokM f a s.1 ∧ Tok8 n s.1 ∧ a 16 = s.2.1 ∧ a 18 = s.2.2
  | .error e => f 13 = 1 ∧ f 9 = e.1 ∧ f 10 = e.2
def FrA (a a' : Nat → Int → Int) : Prop := ∀ j, j ≠ 12 → j ≠ 16 → j ≠ 18 → a' j = a j
def aPier (T : Int → Int) (n : Int) (s : Ls) : Except Er Ls := if s.2.1 7 ≤ 0 then (aPt T n (kw 8) 2 99 (aOn T n s.1)).bind fun v => (aPt T n (kw 9) 0 100 v.2).bind fun d => .ok (d.2, su1 (su1 (su1 s.2.1 0 v.1) 1 d.1) 7 1, s.2.2) else .error (3, s.1.2.1)
def lawOf (t : Tkn) : Int := if isW t (kw 16) then 0 else if isW t (kw 17) then 1 else if isW t (kw 18) then 2 else if isW t (kw 19) then 3 else -1
def aLw (t : Tkn) : Except Er Tkn := if 0 ≤ lawOf t then .ok t else .error (1, t.2.1)
def aPair (T : Int → Int) (n : Int) (s : Ls) : Except Er Ls := (aNew T n s.2.1 s.1).bind fun t1 => (aLw t1).bind fun t1 => (aPt T n (kw 20) 0 (s.2.1 0) (aOn T n t1)).bind fun v => (aPt T n (kw 21) 0 20 v.2).bind fun d => .ok (d.2, su1 (su1 (nmS s.2.1 (s.2.1 2) s.1.2.2.2.2) (8 + s.2.1 2) (lawOf t1)) 2 (s.2.1 2 + 1), su1 (su1 s.2.2 (s.2.1 2) v.1) (5 + s.2.1 2) d.1)
def aCon (T : Int → Int) (n : Int) (s : Ls) : Except Er Ls := (aKn s.2.1 s.1).bind fun k => if s.2.1 (13 + k.1) ≤ 0 then (aPt T n (kw 22) 1 9 (aOn T n k.2)).bind fun v => .ok (v.2, su1 (su1 s.2.1 (13 + k.1) v.1) 3 (s.2.1 3 + 1), s.2.2) else .error (3, k.2.2.1)
def aDebt (T : Int → Int) (n : Int) (s : Ls) : Except Er Ls := (aKn s.2.1 s.1).bind fun k => (aKn s.2.1 (aOn T n k.2)).bind fun q => if k.1 = q.1 ∨ 0 < s.2.2 (10 + 5 * k.1 + q.1) then .error (3, q.2.2.1) else (aWh T n 1 99 (aOn T n q.2)).bind fun v => .ok (v.2, su1 s.2.1 4 (s.2.1 4 + 1), su1 s.2.2 (10 + 5 * k.1 + q.1) v.1)
abbrev isU (φ : Int → Int) (p : Int) : Prop := ∃ k : Fin 4, (k.val : Int) < φ 5 ∧ φ (18 + 2 * (k.val : Int)) = p
def aUns (T : Int → Int) (n : Int) (s : Ls) : Except Er Ls := (aKn s.2.1 s.1).bind fun k => if isU s.2.1 k.1 then .error (3, k.2.2.1) else (aWh T n 0 20 (aOn T n k.2)).bind fun v => .ok (v.2, su1 (su1 (su1 s.2.1 (18 + 2 * s.2.1 5) k.1) (18 + 2 * s.2.1 5 + 1) v.1) 5 (s.2.1 5 + 1), s.2.2)
abbrev isH (φ : Int → Int) (p m : Int) : Prop := ∃ k : Fin 8, (k.val : Int) < φ 6 ∧ φ (26 + 3 * (k.val : Int)) = p ∧ φ (26 + 3 * (k.val : Int) + 1) = m
def aHrd (T : Int → Int) (n : Int) (s : Ls) : Except Er Ls := (aKn s.2.1 s.1).bind fun k => (aMust T n (kw 23) (aOn T n k.2)).bind fun t => (aNum 1 30 t).bind fun m => if isH s.2.1 k.1 m.1 then .error (3, m.2.2.1) else (aPt T n (kw 20) 0 (s.2.1 0) (aOn T n m.2)).bind fun v => .ok (v.2, su1 (su1 (su1 (su1 s.2.1 (26 + 3 * s.2.1 6) k.1) (26 + 3 * s.2.1 6 + 1) m.1) (26 + 3 * s.2.1 6 + 2) v.1) 6 (s.2.1 6 + 1), s.2.2)
def aBeg (T : Int → Int) (n : Int) (c : Prop) [Decidable c] (s : Ls) : Except Er Ls := if c then (if s.2.1 7 = 0 then .error (6, s.1.2.1) else .ok (aOn T n s.1, s.2)) else .error (5, s.1.2.1)
def aLine (T : Int → Int) (n : Int) (s : Ls) : Except Er Ls := if isW s.1 (kw 2) then aPier T n s else if isW s.1 (kw 3) then (aBeg T n (s.2.1 2 < 5) s).bind (aPair T n) else if isW s.1 (kw 4) then (aBeg T n True s).bind (aCon T n) else if isW s.1 (kw 5) then (aBeg T n (s.2.1 4 < 10) s).bind (aDebt T n) else if isW s.1 (kw 6) then (aBeg T n (s.2.1 5 < 4) s).bind (aUns T n) else if isW s.1 (kw 7) then (aBeg T n (s.2.1 6 < 8) s).bind (aHrd T n) else .error (1, s.1.2.1)
/-- what is told keeps to -/
def Wf (φ ψ : Int → Int) : Prop := Ph φ ∧ (∀ t, 0 ≤ t → t < 36 → -1000 ≤ ψ t ∧ ψ t ≤ 1000) ∧ (0 ≤ φ 0 ∧ φ 0 ≤ 99) ∧ (0 ≤ φ 2 ∧ φ 2 ≤ 5) ∧ (0 ≤ φ 3 ∧ φ 3 ≤ 900) ∧ (0 ≤ φ 4 ∧ φ 4 ≤ 10) ∧ (0 ≤ φ 5 ∧ φ 5 ≤ 4) ∧ (0 ≤ φ 6 ∧ φ 6 ≤ 8) ∧ (φ 7 = 0 ∨ φ 7 = 1)
theorem MV.pk {n : Int} {f : Nat → Int} {a : Nat → Int → Int} {z : Int32} {r : Except Er (Int × Tkn)} (h : MV n f a z r) : ∃ v : Int, z = ii v ∧ (∀ t, r = .ok t → t.1 = v ∧ f 13 = 0 ∧ TokM f a t.2 ∧ Tok8 n t.2) ∧ (∀ e, r = .error e → f 13 = 1 ∧ f 9 = e.1 ∧ f 10 = e.2) := by
  rcases r with e | t
  · exact ⟨z.toInt, (ii_pk z).1, fun t h => (by cases h), fun e' h' => (by cases h'; exact h)⟩
  · exact ⟨t.1, h.1, fun t' h' => (by cases h'; exact ⟨rfl, h.2⟩), fun e h => (by cases h)⟩
theorem TokM.cg {f : Nat → Int} {a a' : Nat → Int → Int} {t : Tkn} (h : TokM f a t) (h12 : a' 12 = a 12) : TokM f a' t := ⟨h.1, h.2.1, h.2.2.1, h.2.2.2.1, fun hk => ⟨(h.2.2.2.2 hk).1, fun i hi => by rw [h12]; exact (h.2.2.2.2 hk).2 i hi⟩⟩
theorem MS.cg {n : Int} {f : Nat → Int} {a a' : Nat → Int → Int} {r : Except Er Tkn} (h : MS n f a r) (h12 : a' 12 = a 12) : MS n f a' r := by
  rcases r with e | t
  · exact h
  · exact ⟨h.1, h.2.1.cg h12, h.2.2⟩
theorem aNum_rg {lo hi : Int} {t : Tkn} {v : Int × Tkn} (h : aNum lo hi t = .ok v) : (lo ≤ v.1 ∧ v.1 ≤ hi) ∧ v.2 = t := by
  unfold aNum at h
  split at h
  · split at h
    · cases h
      exact ⟨by assumption, rfl⟩
    · cases h
  · cases h
theorem aWh_rg {T : Int → Int} {n lo hi : Int} {t : Tkn} {v : Int × Tkn} (h : aWh T n lo hi t = .ok v) : lo ≤ v.1 ∧ v.1 ≤ hi := by
  unfold aWh at h
  rcases hn : aNum lo hi t with e | w
  · rw [hn] at h; cases h
  · rw [hn] at h
    cases h
    exact (aNum_rg hn).1
theorem aPt_rg {T : Int → Int} {n lo hi : Int} {w : List Int} {t : Tkn} {v : Int × Tkn} (h : aPt T n w lo hi t = .ok v) : lo ≤ v.1 ∧ v.1 ≤ hi := by
  unfold aPt at h
  rcases hn : aMust T n w t with e | u
  · rw [hn] at h; cases h
  · rw [hn] at h
    exact aWh_rg h
theorem u2_su1 (a : Nat → Int → Int) (k : Nat) (i v : Int) : u2 a k i v k = su1 (a k) i v := by
  funext t
  unfold u2 su1
  rw [if_pos rfl]
theorem m_pierLine (x : Nat) (F : Nat → Int) (P : Nat → Option Nat) (A : Nat → Int → Int) (f l : Nat → Int) (a : Nat → Int → Int) (b : fk_M) (g : Nat → Nat) (hC : Cn x b g) {t : Tkn} (hT : Tx8 (a 1) (f 3)) (hW : Wf (a 16) (a 18)) (hM : MS (f 3) f a (.ok t)) : ∃ f' a', f_X2_pierLine g (some (x + 8)) (hp x F P A f l a b) = some (hp x F P A f' l a' b) ∧ MP (f 3) f' a' (aPier (a 1) (f 3) (t, a 16, a 18)) ∧ FrF f f' ∧ FrA a a' := by
  obtain ⟨h1, h2, h3⟩ := hM
  have hφ7 := hW.2.2.2.2.2.2.2.2
  unfold f_X2_pierLine f_X2_pierLine_J19 aPier
  rw [gm16, Option.bind_some, show (7 : Int32) = ii 7 from rfl, rm16 x F P A f l a b (by omega) (by omega), Option.bind_some]
  dsimp only
  by_cases hc : a 16 7 ≤ 0
  rotate_left
  · have w13 := (wf_MS (f 3) f a 3 t.2.1).1
    rw [if_neg (show ¬ ii (a 16 7) ≤ 0 by rw [show (0 : Int32) = ii 0 from rfl, ii_le (by omega) (by omega)]; exact hc), if_neg hc]
    refine ⟨wf f 3 t.2.1, a, ?_, wf_MS (f 3) f a 3 t.2.1, wf_Fr f 3 t.2.1, fun _ _ _ _ => rfl⟩
    rw [gm4, Option.bind_some, ok1, Option.bind_some, h2.1, show (3 : Int32) = ii 3 from rfl, m_wrong0 x F P A f l a b h1, Option.bind_some, gm13, Option.bind_some, w13, if_neg (show ¬ ii 1 = 0 by decide)]
  rw [if_pos (show ii (a 16 7) ≤ 0 by rw [show (0 : Int32) = ii 0 from rfl, ii_le (by omega) (by omega)]; exact hc), if_pos hc, gm13, Option.bind_some, h1, if_pos (show ii 0 = 0 from rfl), ok1, Option.bind_some]
  obtain ⟨f1, a1, g1, g2, g3, g4⟩ := m_next x F P A f l a b hT (by rw [h2.2.1]; exact h3.2.1.1) (by rw [h2.2.1]; exact h3.2.1.2)
  rw [h2.2.1] at g4
  have q1 := FrF.mk5 g2
  have e3 : f1 3 = f 3 := q1 3 (by omega) (by omega) (by omega) (by omega) (by omega) (by omega) (by omega) (by omega)
  have e1 : a1 1 = a 1 := g3 1 (by omega)
  have hM1 : MS (f 3) f1 a1 (.ok (aOn (a 1) (f 3) t)) := ⟨(g2 13 (by omega) (by omega) (by omega) (by omega) (by omega)).trans h1, g4, tkn_ok hT h3.2.1.1 h3.2.1.2⟩
  obtain ⟨f2, a2, z, k1, k2, k3, k4⟩ := m_after x F P A f1 l a1 b g hC (lo := 2) (hi := 99) (by omega) (by omega) (by rw [e3, e1]; exact hT) (by rw [e3]; exact hM1) (i := 25) (by omega)
  rw [e3, e1] at k2
  have e32 : f2 3 = f 3 := (k3 3 (by omega) (by omega) (by omega) (by omega) (by omega) (by omega) (by omega) (by omega)).trans e3
  have e12 : a2 1 = a 1 := (k4 1 (by omega)).trans e1
  obtain ⟨v, rfl, k5, k6⟩ := k2.pk
  have hM2 : MS (f 3) f2 (u2 a2 16 0 v) ((aPt (a 1) (f 3) (kw 25) 2 99 (aOn (a 1) (f 3) t)).map Prod.snd) := MS.cg k2.ms (u2_nk _ _ _ (by omega))
  have e12' : u2 a2 16 0 v 1 = a 1 := (u2_nk _ _ _ (by omega)).trans e12
  obtain ⟨f4, a4, z2, n1, n2, n3, n4⟩ := m_after x F P A f2 l (u2 a2 16 0 v) b g hC (lo := 0) (hi := 100) (by omega) (by omega) (by rw [e32, e12']; exact hT) (by rw [e32]; exact hM2) (i := 26) (by omega)
  rw [e32, e12'] at n2
  obtain ⟨v2, rfl, n5, n6⟩ := n2.pk
  have hfr : FrF f f4 := (q1.tr k3).tr n3
  have h16 : a4 16 = su1 (a 16) 0 v := by rw [n4 16 (by omega), u2_su1, k4 16 (by omega), g3 16 (by omega)]
  have h18 : a4 18 = a 18 := by rw [n4 18 (by omega), u2_nk _ _ _ (by omega), k4 18 (by omega), g3 18 (by omega)]
  have hfa : ∀ j, j ≠ 12 → j ≠ 16 → j ≠ 18 → a4 j = a j := fun j j1 j2 j3 => (n4 j j1).trans ((u2_nk _ _ _ j2).trans ((k4 j j1).trans (g3 j j1)))
  have hrun : ∀ y : Option fk_M, ((gI (hp x F P A f4 l (u2 a4 16 1 v2) b) (some (x + 8)) 1 13).bind fun z14 => if z14 = 0 then (gR (hp x F P A f4 l (u2 a4 16 1 v2) b) (some (x + 8)) 1 16).bind fun z15 => (sI (hp x F P A f4 l (u2 a4 16 1 v2) b) z15 0 (ii 7) 1).bind fun m16 => some m16 else some (hp x F P A f4 l (u2 a4 16 1 v2) b)) = y → ((f_X2_next (some (x + 8)) (hp x F P A f l a b)).bind fun m3 => (gR m3 (some (x + 8)) 1 16).bind fun z4 => (isO m3 (some (x + 8)) 1).bind fun u5 => bn2 (f_X2_after g (some (x + 8)) (some (g 25)) 2 99 m3) fun z6 m7 => (sI m7 z4 0 0 z6).bind fun m8 => (gR m8 (some (x + 8)) 1 16).bind fun z9 => (isO m8 (some (x + 8)) 1).bind fun u10 => bn2 (f_X2_after g (some (x + 8)) (some (g 26)) 0 100 m8) fun z11 m12 => (sI m12 z9 0 1 z11).bind fun m13 => (gI m13 (some (x + 8)) 1 13).bind fun z14 => if z14 = 0 then (gR m13 (some (x + 8)) 1 16).bind fun z15 => (sI m13 z15 0 (ii 7) 1).bind fun m16 => some m16 else some m13) = y := by
    intro y hy
    rw [g1, Option.bind_some, gm16, Option.bind_some, ok1, Option.bind_some, show (2 : Int32) = ii 2 from rfl, show (99 : Int32) = ii 99 from rfl, k1, bn2_some, show (0 : Int32) = ii 0 from rfl, sm16 x F P A f2 l a2 b v (by omega) (by omega), Option.bind_some, gm16, Option.bind_some, ok1, Option.bind_some, show (100 : Int32) = ii 100 from rfl, n1, bn2_some, show (1 : Int32) = ii 1 from rfl, sm16 x F P A f4 l a4 b v2 (by omega) (by omega), Option.bind_some]
    exact hy
  have ekw : kw 25 = kw 8 := rfl
  have ekw2 : kw 26 = kw 9 := rfl
  rw [ekw] at k5 k6 n5 n6
  rw [ekw2] at n5 n6
  have k5' : ∀ t', aPt (a 1) (f 3) (kw 8) 2 99 (aOn (a 1) (f 3) t) = .ok t' → t'.1 = v := fun t' h => (k5 t' h).1
  rcases hw : aPt (a 1) (f 3) (kw 8) 2 99 (aOn (a 1) (f 3) t) with e | u
  · rw [hw] at n6
    obtain ⟨m1, m2, m3⟩ := n6 e rfl
    refine ⟨f4, u2 a4 16 1 v2, hrun _ ?_, ⟨m1, m2, m3⟩, hfr, fun j j1 j2 j3 => (u2_nk _ _ _ j2).trans (hfa j j1 j2 j3)⟩
    rw [gm13, Option.bind_some, m1, if_neg (show ¬ ii 1 = 0 by decide)]
  · have hv := k5' u hw
    rw [hw] at n5 n6
    show ∃ f' a', _ ∧ MP (f 3) f' a' ((aPt (a 1) (f 3) (kw 9) 0 100 u.2).bind _) ∧ _
    have n5 : ∀ t', aPt (a 1) (f 3) (kw 9) 0 100 u.2 = .ok t' → t'.1 = v2 ∧ f4 13 = 0 ∧ TokM f4 a4 t'.2 ∧ Tok8 (f 3) t'.2 := n5
    have n6 : ∀ e, aPt (a 1) (f 3) (kw 9) 0 100 u.2 = .error e → f4 13 = 1 ∧ f4 9 = e.1 ∧ f4 10 = e.2 := n6
    rcases hw2 : aPt (a 1) (f 3) (kw 9) 0 100 u.2 with e | u2'
    · obtain ⟨m1, m2, m3⟩ := n6 e hw2
      refine ⟨f4, u2 a4 16 1 v2, hrun _ ?_, ⟨m1, m2, m3⟩, hfr, fun j j1 j2 j3 => (u2_nk _ _ _ j2).trans (hfa j j1 j2 j3)⟩
      rw [gm13, Option.bind_some, m1, if_neg (show ¬ ii 1 = 0 by decide)]
    · obtain ⟨m1, m2, m3, m4⟩ := n5 u2' hw2
      refine ⟨f4, u2 (u2 a4 16 1 v2) 16 7 1, hrun _ ?_, ⟨m2, m3.cg ((u2_nk _ _ _ (by omega)).trans (u2_nk _ _ _ (by omega))), m4, ?_, ?_⟩, hfr, fun j j1 j2 j3 => (u2_nk _ _ _ j2).trans ((u2_nk _ _ _ j2).trans (hfa j j1 j2 j3))⟩
      · rw [gm13, Option.bind_some, m2, if_pos (show ii 0 = 0 from rfl), gm16, Option.bind_some, show (1 : Int32) = ii 1 from rfl, sm16 x F P A f4 l (u2 a4 16 1 v2) b 1 (by omega) (by omega), Option.bind_some]
      · rw [u2_su1, u2_su1, h16, m1, hv]
      · rw [u2_nk _ _ _ (by omega), u2_nk _ _ _ (by omega), h18]
