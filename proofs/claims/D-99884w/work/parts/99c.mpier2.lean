/-! PLAIN 46: the model reads a pier, whole -/
set_option maxRecDepth 100000
def Zr (φ ψ : Int → Int) : Prop := (∀ t, 0 ≤ t → t < 95 → φ t = 0) ∧ ∀ t, 0 ≤ t → t < 36 → ψ t = 0
theorem Zr.fi {φ ψ : Int → Int} (h : Zr φ ψ) : FI φ ψ := by
  obtain ⟨h1, h2⟩ := h
  have a0 := h1 0 (by omega) (by omega)
  have a2 := h1 2 (by omega) (by omega)
  have a3 := h1 3 (by omega) (by omega)
  have a4 := h1 4 (by omega) (by omega)
  have a5 := h1 5 (by omega) (by omega)
  have a6 := h1 6 (by omega) (by omega)
  have a7 := h1 7 (by omega) (by omega)
  have a13 := h1 13 (by omega) (by omega)
  have a14 := h1 14 (by omega) (by omega)
  have a15 := h1 15 (by omega) (by omega)
  have a16 := h1 16 (by omega) (by omega)
  have a17 := h1 17 (by omega) (by omega)
  refine ⟨fun t t0 t1 => ?_, fun t t0 t1 => ?_, Or.inl ⟨a7, a0, a2, a4, a5, a6⟩, by omega, ?_, by omega, by omega, by omega, fun p p0 p1 => ?_, fun p p0 p1 => ?_, fun p q p0 p1 q0 q1 => ?_, fun k k0 k1 => ?_, fun k j k0 k1 => ?_, fun k k0 k1 => ?_, h2 35 (by omega) (by omega)⟩
  · have := h1 t t0 t1
    omega
  · have := h2 t t0 t1
    omega
  · unfold ct b01
    rw [a3, a13, a14, a15, a16, a17]
    rfl
  · omega
  · have := h1 (13 + p) (by omega) (by omega)
    have := h1 (50 + p) (by omega) (by omega)
    have := h2 p (by omega) (by omega)
    have := h2 (5 + p) (by omega) (by omega)
    omega
  · have := h2 (10 + 5 * p + q) (by omega) (by omega)
    omega
  · omega
  · omega
  · omega
/-- what reading a pier leaves -/
def MQ8 (f : Nat → Int) (a : Nat → Int → Int) (v : Int) (f' : Nat → Int) (a' : Nat → Int → Int) (r : Except Er Ls) : Prop := match r with
  | .error e => v = -1 ∧ (f' 0 = 0 ∧ f' 11 = 4 ∧ f' 9 = e.1 ∧ f' 10 = e.2 ∧ f' 2 = 0 ∧ f' 14 = f 14 ∧ f' 22 = f 22 ∧ f' 23 = f 23) ∧ ∀ j, j ≠ 12 → j ≠ 16 → j ≠ 18 → a' j = a j
  | .ok s => v = s.2.1 2 ∧ (f' 0 = 0 ∧ f' 11 = 0 ∧ f' 9 = 0 ∧ f' 2 = 0 ∧ f' 14 = 1 ∧ f' 22 = 0 ∧ f' 23 = 0) ∧ (a' 1 = a 1 ∧ (∀ t, 0 ≤ t → t < 95 → a' 15 t = s.2.1 t) ∧ (∀ t, 0 ≤ t → t < 36 → a' 17 t = s.2.2 t) ∧ ∀ t, 0 ≤ t → t < 36 → a' 19 t = s.2.2 t)
theorem m_pierB (x : Nat) (F : Nat → Int) (P : Nat → Option Nat) (A : Nat → Int → Int) (f l : Nat → Int) (a : Nat → Int → Int) (b : fk_M) (g : Nat → Nat) (hC : Cn x b g) {n : Int} (hT : Tx8 (a 1) n) (hz : Zr (a 16) (a 18)) (h13 : f 13 = 0) (h0 : f 0 = 0 ∧ f 11 = 0 ∧ f 9 = 0 ∧ f 2 = 0) (N : Nat) : ∃ v f' a', f_X2_pier_L60 g (some (x + 8)) (ii n) (N + 1) (ii 36) (hp x F P A f l a b) = some (ii v, hp x F P A f' l a' b) ∧ MQ8 f a v f' a' (aAll (a 1) n (a 16) (a 18)) := by
  rw [f_X2_pier_L60, if_pos (show (36 : Int32) ≤ ii 36 by decide)]
  obtain ⟨f0, hf0⟩ : ∃ f0, f0 = u1 (u1 f 3 n) 5 0 := ⟨_, rfl⟩
  have e3 : f0 3 = n := by rw [hf0, u1_ne _ _ (by omega), u1_eq]
  have e5 : f0 5 = 0 := by rw [hf0, u1_eq]
  have ef : ∀ j, j ≠ 3 → j ≠ 5 → f0 j = f j := fun j j1 j2 => by rw [hf0, u1_ne _ _ j2, u1_ne _ _ j1]
  have hn := hT.1
  obtain ⟨f1, a1, g1, g2, g3, g4⟩ := m_next x F P A f0 l a b (by rw [e3]; exact hT) (by omega) (by omega)
  rw [e3, e5] at g4
  have q1 := FrF.mk5 g2
  have e31 : f1 3 = n := q1.e3.trans e3
  have e1 : a1 1 = a 1 := g3 1 (by omega)
  have e16 : a1 16 = a 16 := g3 16 (by omega)
  have e18 : a1 18 = a 18 := g3 18 (by omega)
  have ht0 := tkn_ok hT (Int.le_refl 0) hn.1
  have hM1 : MS n f1 a1 (.ok (tkn (a 1) n 0)) := ⟨(g2 13 (by omega) (by omega) (by omega) (by omega) (by omega)).trans ((ef 13 (by omega) (by omega)).trans h13), g4, ht0⟩
  obtain ⟨f2, a2, k1, k2, k3, k4⟩ := m_readLine x F P A f1 l a1 b g hC (t := tkn (a 1) n 0) (by rw [e31, e1]; exact hT) (by rw [e16, e18]; exact hz.fi.wf) (by rw [e31]; exact hM1)
  rw [e31, e1, e16, e18] at k2
  have hfa : FrA a a2 := fun j j1 j2 j3 => (k4 j j1 j2 j3).trans (g3 j j1)
  have hfr := q1.tr k3
  have e32 : f2 3 = n := hfr.e3.trans e3
  have e12 : a2 1 = a 1 := hfa 1 (by omega) (by omega) (by omega)
  rw [show (0 : Int32) = ii 0 from rfl]
  rw [pm3, Option.bind_some, pm5, Option.bind_some, ← hf0, ok1, Option.bind_some, g1, Option.bind_some, ok1, Option.bind_some, k1, Option.bind_some]
  have fin : ∀ (f3 : Nat → Int) (a3 : Nat → Int → Int) (r : Except Er Ls), f_X2_pier_L97 g (some (x + 8)) fk_fuel (hp x F P A f2 l a2 b) = f_X2_pier_J183 g (some (x + 8)) (hp x F P A f3 l a3 b) → MP n f3 a3 r → FrF f2 f3 → FrA a2 a3 → (∀ s, r = .ok s → f3 9 = 0) → ∃ v f' a', f_X2_pier_L97 g (some (x + 8)) fk_fuel (hp x F P A f2 l a2 b) = some (ii v, hp x F P A f' l a' b) ∧ MQ8 f a v f' a' r := by
    intro f3 a3 r z1 z2 z3 z4 z5
    have hk : ∀ j, j ≠ 3 → j ≠ 4 → j ≠ 5 → j ≠ 6 → j ≠ 7 → j ≠ 8 → j ≠ 9 → j ≠ 10 → j ≠ 13 → f3 j = f j := fun j i3 i4 i5 i6 i7 i8 i9 i10 i13 => ((hfr.tr z3) j i4 i5 i6 i7 i8 (Or.inl i9) i10 (Or.inl i13)).trans (ef j i3 i5)
    have hka : ∀ j, j ≠ 12 → j ≠ 16 → j ≠ 18 → a3 j = a j := fun j j1 j2 j3 => (z4 j j1 j2 j3).trans (hfa j j1 j2 j3)
    have k0 : f3 0 = f 0 := hk 0 (by omega) (by omega) (by omega) (by omega) (by omega) (by omega) (by omega) (by omega) (by omega)
    have k2' : f3 2 = f 2 := hk 2 (by omega) (by omega) (by omega) (by omega) (by omega) (by omega) (by omega) (by omega) (by omega)
    have k11 : f3 11 = f 11 := hk 11 (by omega) (by omega) (by omega) (by omega) (by omega) (by omega) (by omega) (by omega) (by omega)
    have k14 : f3 14 = f 14 := hk 14 (by omega) (by omega) (by omega) (by omega) (by omega) (by omega) (by omega) (by omega) (by omega)
    have k22 : f3 22 = f 22 := hk 22 (by omega) (by omega) (by omega) (by omega) (by omega) (by omega) (by omega) (by omega) (by omega)
    have k23 : f3 23 = f 23 := hk 23 (by omega) (by omega) (by omega) (by omega) (by omega) (by omega) (by omega) (by omega) (by omega)
    rw [z1]
    rcases r with e | s
    · obtain ⟨y1, y2, y3⟩ := z2
      rw [m_p183e x F P A f3 l a3 b g y1]
      refine ⟨-1, u1 f3 11 4, a3, rfl, rfl, ⟨?_, u1_eq .., ?_, ?_, ?_, ?_, ?_, ?_⟩, hka⟩
      · rw [u1_ne _ _ (by omega)]; omega
      · rw [u1_ne _ _ (by omega)]; exact y2
      · rw [u1_ne _ _ (by omega)]; exact y3
      · rw [u1_ne _ _ (by omega)]; omega
      · rw [u1_ne _ _ (by omega)]; omega
      · rw [u1_ne _ _ (by omega)]; omega
      · rw [u1_ne _ _ (by omega)]; omega
    · obtain ⟨y1, y2, y3, y4, y5⟩ := z2
      have y9 := z5 s rfl
      obtain ⟨a4, w1, w2, w3, w4, w5⟩ := m_p183 x F P A f3 l a3 b g y1
      rw [w1, y4]
      rw [y4] at w3
      rw [y5] at w4 w5
      refine ⟨s.2.1 2, _, a4, rfl, rfl, ⟨?_, ?_, ?_, ?_, ?_, ?_, u1_eq ..⟩, (w2 1 (by omega) (by omega) (by omega)).trans (hka 1 (by omega) (by omega) (by omega)), w3, w4, w5⟩
      · rw [u1_ne _ _ (by omega), u1_ne _ _ (by omega), u1_ne _ _ (by omega)]; omega
      · rw [u1_ne _ _ (by omega), u1_ne _ _ (by omega), u1_ne _ _ (by omega)]; omega
      · rw [u1_ne _ _ (by omega), u1_ne _ _ (by omega), u1_ne _ _ (by omega)]; exact y9
      · rw [u1_ne _ _ (by omega), u1_ne _ _ (by omega), u1_ne _ _ (by omega)]; omega
      · rw [u1_ne _ _ (by omega), u1_ne _ _ (by omega), u1_eq]
      · rw [u1_ne _ _ (by omega), u1_eq]
  unfold aAll
  rcases hl : aLine (a 1) n (tkn (a 1) n 0, a 16, a 18) with e | s
  · rw [hl] at k2
    refine fin f2 a2 (.error e) ?_ k2 (FrF.rfl' f2) (fun _ _ _ _ => rfl) (fun s h => by cases h)
    rw [show fk_fuel = (fk_fuel - 1) + 1 by unfold fk_fuel; omega, f_X2_pier_L97, gm13, Option.bind_some, k2.1, if_neg (show ¬ ii 1 = 0 by decide), m_p124e x F P A f2 l a2 b g k2.1]
  · rw [hl] at k2
    obtain ⟨r1, r2, r3⟩ := aLine_ok hT (s := (tkn (a 1) n 0, a 16, a 18)) ht0 hz.fi hl
    have hs := r1.2.2.1
    obtain ⟨f3, a3, z1, z2, z3, z4⟩ := m_pL97 x F P A l b g hC 1000 fk_fuel s f2 a2 e32 (by rw [e12]; exact hT) k2 r3 (by omega) (by unfold fk_fuel; omega)
    rw [e12] at z2
    refine fin f3 a3 _ z1 z2 z3 z4 (fun s' hs' => ?_)
    have hs' : aLoop (a 1) n 1000 s = .ok s' := hs'
    rw [hs'] at z2
    have z0 := z2.1
    rw [(hfr.tr z3) 9 (by omega) (by omega) (by omega) (by omega) (by omega) (Or.inr z0) (by omega) (by omega), ef 9 (by omega) (by omega)]
    exact h0.2.2.1
theorem m_pier (x : Nat) (F : Nat → Int) (P : Nat → Option Nat) (A : Nat → Int → Int) (f l : Nat → Int) (a : Nat → Int → Int) (b : fk_M) (g : Nat → Nat) (hC : Cn x b g) {n : Int} (hn : rg n) (h2 : 0 ≤ f 2 ∧ f 2 ≤ 900) (hT : ∀ k, 0 ≤ k → k < f 2 → 0 ≤ a 1 k ∧ a 1 k ≤ 255) : (¬ (0 ≤ n ∧ n ≤ f 2) → f_X2_pier g (some (x + 8)) (ii n) (hp x F P A f l a b) = some (ii (-1), hp x F P A (fo f 2) l a b)) ∧ ((0 ≤ n ∧ n ≤ f 2) → ∃ φ ψ v f' a', Zr φ ψ ∧ f_X2_pier g (some (x + 8)) (ii n) (hp x F P A f l a b) = some (ii v, hp x F P A f' l a' b) ∧ MQ8 f a v f' a' (aAll (a 1) n φ ψ)) := by
  unfold f_X2_pier
  have e2 : fo f 0 2 = f 2 := rfl
  rw [ok1, Option.bind_some, m_good, Option.bind_some, gm2, Option.bind_some, e2, show (0 : Int32) = ii 0 from rfl, m_in _ hn (by omega) (by omega), Option.bind_some]
  refine ⟨fun hc => ?_, fun hc => ?_⟩
  · rw [if_neg hc, if_pos rfl, ok1, Option.bind_some, show (2 : Int32) = ii 2 from rfl, m_no, bn2_some, u1_u1]
  · rw [if_pos hc, if_neg (show ¬ ii 1 = ii 0 by decide), pm2, Option.bind_some, pm9, Option.bind_some, pz13_0, Option.bind_some]
    obtain ⟨f0, hf0⟩ : ∃ f0, f0 = u1 (u1 (u1 (fo f 0) 2 0) 9 0) 13 0 := ⟨_, rfl⟩
    rw [← hf0]
    have hk0 : f0 0 = 0 ∧ f0 11 = 0 ∧ f0 9 = 0 ∧ f0 2 = 0 ∧ f0 13 = 0 ∧ f0 14 = f 14 ∧ f0 22 = f 22 ∧ f0 23 = f 23 := by
      rw [hf0]
      refine ⟨rfl, rfl, rfl, rfl, rfl, rfl, rfl, rfl⟩
    have hL := loop_ex (fun N (_ : Unit) k (y : Nat → Int → Int) => f_X2_pier_L39 g (some (x + 8)) (ii n) N (ii k) (hp x F P A f0 l y b)) (fun u _ => u) (fun _ y => f_X2_pier_L60 g (some (x + 8)) (ii n) fk_fuel 0 (hp x F P A f0 l y b)) (fun _ k y => (∀ j, j ≠ 16 → y j = a j) ∧ ∀ t, 0 ≤ t → t < k → y 16 t = 0) (lo := 0) (hi := 95) ?_ ?_ 95 fk_fuel () 0 a (by omega) (by omega) (by unfold fk_fuel; omega) ⟨fun _ _ => rfl, fun i i0 i1 => by omega⟩
    · obtain ⟨a1, g1, g2, g3⟩ := hL
      try dsimp only at g1
      rw [g1]
      have hL2 := loop_ex (fun N (_ : Unit) k (y : Nat → Int → Int) => f_X2_pier_L60 g (some (x + 8)) (ii n) N (ii k) (hp x F P A f0 l y b)) (fun u _ => u) (fun _ y => f_X2_pier_L60 g (some (x + 8)) (ii n) 1 (ii 36) (hp x F P A f0 l y b)) (fun _ k y => (∀ j, j ≠ 18 → y j = a1 j) ∧ ∀ t, 0 ≤ t → t < k → y 18 t = 0) (lo := 0) (hi := 36) ?_ ?_ 36 fk_fuel () 0 a1 (by omega) (by omega) (by unfold fk_fuel; omega) ⟨fun _ _ => rfl, fun i i0 i1 => by omega⟩
      · obtain ⟨a2, k1, k2, k3⟩ := hL2
        try dsimp only at k1
        rw [show (0 : Int32) = ii 0 from rfl, k1]
        have e1 : a2 1 = a 1 := (k2 1 (by omega)).trans (g2 1 (by omega))
        have hz : Zr (a2 16) (a2 18) := ⟨fun t t0 t1 => by rw [k2 16 (by omega)]; exact g3 t t0 t1, k3⟩
        obtain ⟨v, f', a', z1, z2⟩ := m_pierB x F P A f0 l a2 b g hC (n := n) (by rw [e1]; exact ⟨by omega, fun k k0 k1 => hT k k0 (by omega)⟩) hz hk0.2.2.2.2.1 ⟨hk0.1, hk0.2.1, hk0.2.2.1, hk0.2.2.2.1⟩ 0
        refine ⟨a2 16, a2 18, v, f', a', hz, z1, ?_⟩
        rw [e1] at z2
        rcases hr : aAll (a 1) n (a2 16) (a2 18) with e | s
        · rw [hr] at z2
          obtain ⟨y1, ⟨y2, y3, y4, y5, y6, y7, y8, y9⟩, y10⟩ := z2
          exact ⟨y1, ⟨y2, y3, y4, y5, y6, by omega, by omega, by omega⟩, fun j j1 j2 j3 => (y10 j j1 j2 j3).trans ((k2 j j3).trans (g2 j j2))⟩
        · rw [hr] at z2
          obtain ⟨y1, y2, y3, y4⟩ := z2
          exact ⟨y1, y2, y3.trans e1, y4⟩
      · intro N u y hy
        try dsimp only
        rw [f_X2_pier_L60, f_X2_pier_L60, if_pos (show (36 : Int32) ≤ ii 36 by decide), if_pos (show (36 : Int32) ≤ ii 36 by decide)]
      · intro N u k y h1 h2 hy
        refine ⟨u2 y 18 k 0, ⟨fun j hj => (u2_nk _ _ _ hj).trans (hy.1 j hj), fun t t0 t1 => ?_⟩, ?_⟩
        · by_cases ht : t = k
          · rw [ht, u2_eq]
          · rw [u2_ni _ _ _ ht]
            exact hy.2 t t0 (by omega)
        · try dsimp only
          rw [f_X2_pier_L60, if_neg (by rw [show (36 : Int32) = ii 36 from rfl, ii_le (by omega) (by omega)]; omega), gm18, Option.bind_some, show (0 : Int32) = ii 0 from rfl, sm18 x F P A f0 l y b 0 (by omega) (by omega), Option.bind_some, show (1 : Int32) = ii 1 from rfl, ii_add]
    · intro N u y hy
      try dsimp only
      rw [f_X2_pier_L39, if_pos (show (95 : Int32) ≤ ii 95 by decide)]
    · intro N u k y h1 h2 hy
      refine ⟨u2 y 16 k 0, ⟨fun j hj => (u2_nk _ _ _ hj).trans (hy.1 j hj), fun t t0 t1 => ?_⟩, ?_⟩
      · by_cases ht : t = k
        · rw [ht, u2_eq]
        · rw [u2_ni _ _ _ ht]
          exact hy.2 t t0 (by omega)
      · try dsimp only
        rw [f_X2_pier_L39, if_neg (by rw [show (95 : Int32) = ii 95 from rfl, ii_le (by omega) (by omega)]; omega), gm16, Option.bind_some, show (0 : Int32) = ii 0 from rfl, sm16 x F P A f0 l y b 0 (by omega) (by omega), Option.bind_some, show (1 : Int32) = ii 1 from rfl, ii_add]
