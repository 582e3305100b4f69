/-! PLAIN 9: the model: two who talk -/
set_option maxRecDepth 100000
def tk (b m o : Int32) : Int32 := if m = 0 then (if o = 0 then (0 : Int32) else (-1)) else (if o = 0 then (4 : Int32) else (1 - b))
theorem m_talksOf (m : fk_M) (b c d : Int32) : f_X2_talksOf b c d m = some (tk b c d) := rfl
theorem k_gets (m : fk_M) (b c d : Int32) : f_X1_gets b c d m = some (tk b c d) := rfl
def s_talks (h br : Int) (c d e : Int32) : Int := if wy (h = 1) (0 ≤ br ∧ br ≤ 9) = 0 then (if e = 0 then tk (ii br) c d else tk (ii br) d c).toInt else -100
theorem Hm01 {f : Nat → Int} {a : Nat → Int → Int} (hM : Hm f a) : f 14 = 0 ∨ f 14 = 1 := by
  rcases hM with h | ⟨h, -⟩
  · exact Or.inl h
  · exact Or.inr h
theorem m_whyBr (x : Nat) (F : Nat → Int) (P : Nat → Option Nat) (A : Nat → Int → Int) (f l : Nat → Int) (a : Nat → Int → Int) (b : fk_M) {br : Int} (hb : rg br) (hM : Hm f a) {ρ : Type} (g : Int32 → Option ρ) : ((gI (hp x F P A (fo f 0) l a b) (some (x + 8)) 1 14).bind fun z3 => (f_X2_in (ii br) 0 9 (hp x F P A (fo f 0) l a b)).bind fun z4 => (isO (hp x F P A (fo f 0) l a b) (some (x + 8)) 1).bind fun u5 => (f_X2_why (some (x + 8)) z3 z4 (hp x F P A (fo f 0) l a b)).bind g) = g (ii (wy (f 14 = 1) (0 ≤ br ∧ br ≤ 9))) := by
  have e5 : f_X2_in (ii br) 0 9 (hp x F P A (fo f 0) l a b) = some (ii (if 0 ≤ br ∧ br ≤ 9 then 1 else 0)) := m_in _ (lo := 0) (hi := 9) hb (by omega) (by omega)
  rw [gm14, Option.bind_some, e5, Option.bind_some, ok1, Option.bind_some]
  have e14 : fo f 0 14 = f 14 := rfl
  rw [e14, m_why _ _ (Hm01 hM) (by split <;> omega), Option.bind_some]
  refine congrArg (fun z => g (ii z)) ?_
  unfold wy
  (repeat' split) <;> omega
theorem m_talks (x : Nat) (F : Nat → Int) (P : Nat → Option Nat) (A : Nat → Int → Int) (f l : Nat → Int) (a : Nat → Int → Int) (b : fk_M) {br : Int} (c d e : Int32) (hb : rg br) (hM : Hm f a) : MO x F P A f l a b (s_talks (f 14) br c d e) (wy (f 14 = 1) (0 ≤ br ∧ br ≤ 9)) (f_X2_talks (some (x + 8)) (ii br) c d e (hp x F P A f l a b)) := by
  refine MO.of ?_
  have hy := wy_rg (f 14 = 1) (0 ≤ br ∧ br ≤ 9)
  unfold f_X2_talks s_talks
  rw [ok1, Option.bind_some, m_good, Option.bind_some, m_whyBr x F P A f l a b hb hM]
  by_cases h0 : wy (f 14 = 1) (0 ≤ br ∧ br ≤ 9) = 0
  · rw [h0, if_pos (show ii 0 = 0 by decide), if_pos rfl, ii_tI]
    split <;> rfl
  · rw [if_neg h0, if_neg (show ¬ ii (wy (f 14 = 1) (0 ≤ br ∧ br ≤ 9)) = 0 by rw [show (0 : Int32) = ii 0 from rfl, ii_eq (by omega) (by omega)]; exact h0), pm11, Option.bind_some, u1_u1]
    rfl
def on1 (k : Int) : Int32 := if ii k ≤ 1 then (0 : Int32) else 1
def tw1 (k : Int) : Int32 := if (i_rem (ii k) 2) = 1 then (1 : Int32) else 0
def nt1 (z : Int32) : Int32 := if z = 0 then (1 : Int32) else 0
abbrev rst (br k : Int) : Prop := ¬ tk (ii br) (on1 k) (tw1 k) < tk (ii br) (nt1 (on1 k)) (tw1 k) ∧ tk (ii br) (nt1 (tw1 k)) (on1 k) ≤ tk (ii br) (tw1 k) (on1 k)
def rsv (k : Int) : Int := 10 * (k / 2) + k % 2
def rss (br : Int) (u : Int × Int) (k : Int) : Int × Int := if rst br k then (u.1 + 1, if u.1 = 0 then rsv k else u.2) else u
def s_rests (h br : Int) : Int := if wy (h = 1) (0 ≤ br ∧ br ≤ 9) = 0 then (itr (rss br) 4 0 (0, -2)).1 else -1
def s_rest (h br : Int) : Int := if wy (h = 1) (0 ≤ br ∧ br ≤ 9) = 0 then (itr (rss br) 4 0 (0, -2)).2 else -1
theorem rsv_ii {k : Int} (h0 : 0 ≤ k) (h1 : k < 4) : (10 * (ii k / 2)) + (i_rem (ii k) 2) = ii (rsv k) := by
  have : k = 0 ∨ k = 1 ∨ k = 2 ∨ k = 3 := by omega
  rcases this with rfl | rfl | rfl | rfl <;> decide
theorem m_seekRests (x : Nat) (F : Nat → Int) (P : Nat → Option Nat) (A : Nat → Int → Int) (f l : Nat → Int) (a : Nat → Int → Int) (b : fk_M) (br : Int) : f_X2_seekRests (some (x + 8)) (ii br) (hp x F P A f l a b) = some (ii (itr (rss br) 4 0 (0, -2)).1, hp x F P A (u1 f 37 (itr (rss br) 4 0 (0, -2)).2) l a b) := by
  unfold f_X2_seekRests
  have hL := loop_it (fun N (u : Int × Int) k => f_X2_seekRests_L10 (some (x + 8)) (ii br) N (ii u.1) (ii k) (hp x F P A (u1 f 37 u.2) l a b)) (rss br) (fun u => some (ii u.1, hp x F P A (u1 f 37 u.2) l a b)) (fun u k => 0 ≤ u.1 ∧ u.1 ≤ k) (lo := 0) (hi := 4) ?_ ?_ 4 fk_fuel (0, -2) 0 (by omega) (by omega) (by unfold fk_fuel; omega) ⟨Int.le_refl 0, Int.le_refl 0⟩
  · rw [show (tI (-2) : fk_T) = tI (ii (-2)) from rfl, pm37, Option.bind_some]
    exact hL.1
  · intro N u hu
    try dsimp only
    rw [f_X2_seekRests_L10, if_pos (show (4 : Int32) ≤ ii 4 by decide)]
  · intro N u k k1 k2 hu
    refine ⟨by unfold rss; split <;> (try dsimp only) <;> omega, ?_⟩
    try dsimp only
    have hk4 : ¬ (4 : Int32) ≤ ii k := by
      rw [show (4 : Int32) = ii 4 from rfl, ii_le (by omega) (by omega)]
      omega
    have ek : ii k + 1 = ii (k + 1) := ii_add k 1
    rw [f_X2_seekRests_L10, if_neg hk4]
    simp only [m_talksOf, Option.bind_some, f_X2_seekRests_J119, f_X2_seekRests_J116, ek, rsv_ii k1 k2]
    have eu : ii u.1 + 1 = ii (u.1 + 1) := ii_add u.1 1
    rw [eu]
    have hx1 : (if ii k ≤ 1 then (0 : Int32) else 1) = on1 k := rfl
    have hx2 : (if (i_rem (ii k) 2) = 1 then (1 : Int32) else 0) = tw1 k := rfl
    simp only [hx1, hx2]
    have hx3 : (if on1 k = 0 then (1 : Int32) else 0) = nt1 (on1 k) := rfl
    have hx4 : (if tw1 k = 0 then (1 : Int32) else 0) = nt1 (tw1 k) := rfl
    simp only [hx3, hx4]
    have hu0 : (ii u.1 = 0) = (u.1 = 0) := by
      rw [show (0 : Int32) = ii 0 from rfl]
      exact ii_eq (by omega) (by omega)
    unfold rss
    by_cases c1 : tk (ii br) (on1 k) (tw1 k) < tk (ii br) (nt1 (on1 k)) (tw1 k)
    · rw [if_pos c1, if_neg (fun h => h.1 c1)]
    · by_cases c2 : tk (ii br) (nt1 (tw1 k)) (on1 k) ≤ tk (ii br) (tw1 k) (on1 k)
      · have c12 : rst br k := ⟨c1, c2⟩
        rw [if_neg c1, if_pos c2, if_pos c12]
        simp only [hu0]
        by_cases c3 : u.1 = 0
        · rw [if_pos c3, if_pos c3, pm37, Option.bind_some, u1_u1]
        · rw [if_neg c3, if_neg c3]
      · rw [if_neg c1, if_neg c2, if_neg (fun h => c2 h.2)]
theorem m_rests (x : Nat) (F : Nat → Int) (P : Nat → Option Nat) (A : Nat → Int → Int) (f l : Nat → Int) (a : Nat → Int → Int) (b : fk_M) {br : Int} (hb : rg br) (hM : Hm f a) : MO x F P A f l a b (s_rests (f 14) br) (wy (f 14 = 1) (0 ≤ br ∧ br ≤ 9)) (f_X2_rests (some (x + 8)) (ii br) (hp x F P A f l a b)) := by
  have hy := wy_rg (f 14 = 1) (0 ≤ br ∧ br ≤ 9)
  unfold f_X2_rests s_rests
  rw [ok1, Option.bind_some, m_good, Option.bind_some, m_whyBr x F P A f l a b hb hM]
  by_cases h0 : wy (f 14 = 1) (0 ≤ br ∧ br ≤ 9) = 0
  · rw [h0, if_pos (show ii 0 = 0 by decide), if_pos rfl, ok1, Option.bind_some, m_seekRests, bn2_some]
    exact MO.mk _ l a rfl ((u1_ne _ _ (by omega)).trans ((u1_ne _ _ (by omega)).trans (u1_eq ..))) ((u1_ne _ _ (by omega)).trans (u1_eq ..)) ((mk.o f 0).tr (mk.u _ 37 _ (by omega))) (ma.rfl' _)
  · rw [if_neg h0, if_neg (show ¬ ii (wy (f 14 = 1) (0 ≤ br ∧ br ≤ 9)) = 0 by rw [show (0 : Int32) = ii 0 from rfl, ii_eq (by omega) (by omega)]; exact h0), ok1, Option.bind_some, m_no, bn2_some, u1_u1]
    exact MO.of rfl
theorem m_rest (x : Nat) (F : Nat → Int) (P : Nat → Option Nat) (A : Nat → Int → Int) (f l : Nat → Int) (a : Nat → Int → Int) (b : fk_M) {br : Int} (hb : rg br) (hM : Hm f a) : MO x F P A f l a b (s_rest (f 14) br) (wy (f 14 = 1) (0 ≤ br ∧ br ≤ 9)) (f_X2_rest (some (x + 8)) (ii br) (hp x F P A f l a b)) := by
  have hy := wy_rg (f 14 = 1) (0 ≤ br ∧ br ≤ 9)
  unfold f_X2_rest s_rest
  rw [ok1, Option.bind_some, m_good, Option.bind_some, m_whyBr x F P A f l a b hb hM]
  by_cases h0 : wy (f 14 = 1) (0 ≤ br ∧ br ≤ 9) = 0
  · rw [h0, if_pos (show ii 0 = 0 by decide), if_pos rfl, ok1, Option.bind_some, m_seekRests, bn2_some, gm37, Option.bind_some, u1_eq]
    exact MO.mk _ l a rfl ((u1_ne _ _ (by omega)).trans ((u1_ne _ _ (by omega)).trans (u1_eq ..))) ((u1_ne _ _ (by omega)).trans (u1_eq ..)) ((mk.o f 0).tr (mk.u _ 37 _ (by omega))) (ma.rfl' _)
  · rw [if_neg h0, if_neg (show ¬ ii (wy (f 14 = 1) (0 ≤ br ∧ br ≤ 9)) = 0 by rw [show (0 : Int32) = ii 0 from rfl, ii_eq (by omega) (by omega)]; exact h0), ok1, Option.bind_some, m_no, bn2_some, u1_u1]
    exact MO.of rfl
