/-! PLAIN 28: what the component keeps; an act is remembered -/
set_option maxRecDepth 100000
/-- cells that no act writes: those from the start, and rows of longs -/
def Lw (x : Nat) (b : fk_M) (q : Nat) : Prop := q < x ∨ (x + 24 ≤ q ∧ ∃ w n j, b q = some (w, aJ n j))
theorem Lw.ob {x : Nat} {b : fk_M} {q : Nat} (h : Lw x b q) : Ob x q := h.imp id (fun h => h.1)
theorem Lw.lt {x n : Nat} {b : fk_M} {q : Nat} (h : Lw x b q) (hx : x ≤ n) (hf : ∀ q, n ≤ q → b q = none) : q < n := by
  rcases h with h | ⟨-, w, c, j, h⟩
  · omega
  · by_cases hc : q < n
    · exact hc
    · rw [hf q (by omega)] at h
      cases h
theorem Lw.ne {x : Nat} {b : fk_M} {q e c : Nat} {w : Bool} {gl : Nat → Option Nat} (h : Lw x b q) (he : b e = some (w, aQ c gl)) (hx : x ≤ e) : q ≠ e := by
  intro hq
  rcases h with h | ⟨-, w', c', j, h⟩
  · omega
  · rw [hq, he] at h
    cases h
def rw_ (U : Int → Int) (i : Nat) : Int → Int := fun t => U (36 * i + t)
abbrev Ad (s t : Nat) : Prop := s + 4 ≤ t ∨ t + 4 ≤ s
theorem Rg.cg {ρ τ σ σ' : Int → Int} (h : Rg ρ τ σ) (hs : ∀ t, 0 ≤ t → t < 36 → σ' t = σ t) : Rg ρ τ σ' := by
  obtain ⟨h1, h2, h3, h4, h5, h6, h7, h8, h9, h10, h11, h12, h13⟩ := h
  refine ⟨h1, h2, h3, h4, h5, h6, h7, fun p p0 p1 => ?_, fun p q p0 p1 q0 q1 => ?_, h10, h11, h12, by rw [hs 35 (by omega) (by omega)]; exact h13⟩
  · rw [hs p p0 (by omega), hs (5 + p) (by omega) (by omega)]
    exact h8 p p0 p1
  · rw [hs (10 + 5 * p + q) (by omega) (by omega)]
    exact h9 p q p0 p1 q0 q1
theorem Sg.lt {b : fk_M} {pa s n : Nat} {R : Int → Int} (h : Sg b pa s R) (hf : ∀ q, n ≤ q → b q = none) : s + 4 ≤ n := by
  obtain ⟨-, -, -, ⟨g, i, -⟩⟩ := h
  by_cases hc : n ≤ s + 3
  · rw [hf _ hc] at i
    cases i
  · omega
theorem Sg.ne {b : fk_M} {pa s e c : Nat} {w : Bool} {R : Int → Int} {gl : Nat → Option Nat} (h : Sg b pa s R) (he : b e = some (w, aQ c gl)) : ∀ q, s ≤ q → q < s + 4 → q ≠ e := by
  intro q q1 q2 hq
  obtain ⟨⟨V, h1, -⟩, ⟨g1, i1, -⟩, ⟨g2, i2, -⟩, ⟨g3, i3, -⟩⟩ := h
  subst hq
  have : q = s ∨ q = s + 1 ∨ q = s + 2 ∨ q = s + 3 := by omega
  rcases this with rfl | rfl | rfl | rfl
  · rw [h1] at he; cases he
  · rw [i1] at he; cases he
  · rw [i2] at he; cases he
  · rw [i3] at he; cases he
theorem Sg.apart {b : fk_M} {pa s : Nat} {R : Int → Int} (h : Sg b pa s R) {a : Nat} {w : Bool} {c : fk_C} (ha : b a = some (w, c)) (hk : kd c) : a < s ∨ s + 4 ≤ a := by
  obtain ⟨⟨V, h1, -⟩, ⟨g1, i1, -⟩, ⟨g2, i2, -⟩, ⟨g3, i3, -⟩⟩ := h
  by_cases hc : a < s ∨ s + 4 ≤ a
  · exact hc
  · exfalso
    have : a = s ∨ a = s + 1 ∨ a = s + 2 ∨ a = s + 3 := by omega
    rcases this with rfl | rfl | rfl | rfl
    · rw [h1] at ha; cases ha; exact hk rfl
    · rw [i1] at ha; cases ha; exact absurd hk (by unfold kd; omega)
    · rw [i2] at ha; cases ha; exact absurd hk (by unfold kd; omega)
    · rw [i3] at ha; cases ha; exact absurd hk (by unfold kd; omega)
theorem Lk.lt {b : fk_M} {e0 x sz ea cap n : Nat} {gl : Nat → Option Nat} (h : Lk b e0 x sz ea cap gl) (hf : ∀ q, n ≤ q → b q = none) : ea < n ∧ ∃ w, b ea = some (w, aQ cap gl) := by
  have hb : ∃ w, b ea = some (w, aQ cap gl) := by
    rcases h with ⟨rfl, -, -, w, hb⟩ | ⟨-, -, -, hb⟩
    · exact ⟨w, hb⟩
    · exact ⟨true, hb⟩
  refine ⟨?_, hb⟩
  obtain ⟨w, hb⟩ := hb
  by_cases hc : n ≤ ea
  · rw [hf _ hc] at hb
    cases hb
  · omega
theorem Lk.cg {b b' : fk_M} {e0 x sz ea cap : Nat} {gl : Nat → Option Nat} (h : Lk b e0 x sz ea cap gl) (hb : b' ea = b ea) : Lk b' e0 x sz ea cap gl := by
  rcases h with ⟨h1, h2, h3, w, h4⟩ | ⟨h1, h2, h3, h4⟩
  · exact Or.inl ⟨h1, h2, h3, w, hb.trans h4⟩
  · exact Or.inr ⟨h1, h2, h3, hb.trans h4⟩
def KI (x n : Nat) (g : Nat → Nat) (F : Nat → Int) (P : Nat → Option Nat) (b : fk_M) (h : Int) (ρ τ σ U : Int → Int) (u : Nat) (K : Int → Int) (k : Nat) : Prop :=
  ((∀ q, n ≤ q → b q = none) ∧ x + 24 ≤ n ∧ g 40 < x ∧ u ≤ 16 ∧ k ≤ 3 ∧ F 101 = u ∧ F 111 = k) ∧
  ∃ (ep cp : Nat) (gp : Nat → Option Nat) (ei ci : Nat) (gi : Nat → Option Nat), P 100 = some ep ∧ P 110 = some ei ∧ Lk b (g 40) x u ep cp gp ∧ Lk b (g 40) x k ei ci gi ∧ (cp ≠ 0 → ci ≠ 0 → ep ≠ ei) ∧
    ((h = 0 ∧ P 5 = none ∧ u = 0 ∧ k = 0) ∨ (h = 1 ∧ Rg ρ τ σ ∧ ∃ (q lw hk : Int → Nat) (pa sg un l4 l5 l6 e4 e6 : Nat) (ps im : Nat → Nat), P 5 = some pa ∧ P 6 = some sg ∧ Gr x b ρ τ q lw hk pa un l4 l5 l6 e4 e6 ∧ (cp ≠ 0 → ep ≠ e4 ∧ ep ≠ e6) ∧ (ci ≠ 0 → ei ≠ e4 ∧ ei ≠ e6) ∧ (Sg b pa sg σ ∧ x + 24 ≤ sg) ∧
      (∀ i, i < u → gp i = some (ps i) ∧ Sg b pa (ps i) (rw_ U i) ∧ Rg ρ τ (rw_ U i) ∧ x + 24 ≤ ps i ∧ Ad sg (ps i)) ∧
      (∀ i, i < k → gi i = some (im i) ∧ Sg b pa (im i) (rw_ K i) ∧ Rg ρ τ (rw_ K i) ∧ x + 24 ≤ im i ∧ Ad sg (im i)) ∧
      (∀ i j, i < u → j < u → i ≠ j → Ad (ps i) (ps j)) ∧ (∀ i j, i < u → j < k → Ad (ps i) (im j))))
theorem KI.kq {x n : Nat} {g : Nat → Nat} {F : Nat → Int} {P : Nat → Option Nat} {b : fk_M} {h : Int} {ρ τ σ U : Int → Int} {u : Nat} {K : Int → Int} {k : Nat} (hK : KI x n g F P b h ρ τ σ U u K k) : Kq x P b h ρ τ σ := by
  obtain ⟨-, ep, cp, gp, ei, ci, gi, -, -, -, -, -, h0 | ⟨h1, hR, q, lw, hk, pa, sg, un, l4, l5, l6, e4, e6, ps, im, p5, p6, hG, -, -, hS, -⟩⟩ := hK
  · exact Or.inl ⟨h0.1, h0.2.1⟩
  · exact Or.inr ⟨h1, hR, q, lw, hk, pa, sg, un, l5, l6, sg + 1, sg + 2, sg + 3, Api.of hR p5 p6 hG hS.1 hS.2⟩
theorem KI.F' {x n : Nat} {g : Nat → Nat} {F F' : Nat → Int} {P : Nat → Option Nat} {b : fk_M} {h : Int} {ρ τ σ U : Int → Int} {u : Nat} {K : Int → Int} {k : Nat} (hK : KI x n g F P b h ρ τ σ U u K k) (h1 : F' 101 = F 101) (h2 : F' 111 = F 111) : KI x n g F' P b h ρ τ σ U u K k :=
  ⟨⟨hK.1.1, hK.1.2.1, hK.1.2.2.1, hK.1.2.2.2.1, hK.1.2.2.2.2.1, h1.trans hK.1.2.2.2.2.2.1, h2.trans hK.1.2.2.2.2.2.2⟩, hK.2⟩
/-- the rows of what can be undone, an act being remembered -/
def Nt (U σ U' : Int → Int) (u : Nat) : Prop := ∀ (i : Nat) (t : Int), 0 ≤ t → t < 36 → (u = 16 → (i < 15 → rw_ U' i t = rw_ U (i + 1) t) ∧ (i = 15 → rw_ U' i t = σ t)) ∧ (u ≠ 16 → (i < u → rw_ U' i t = rw_ U i t) ∧ (i = u → rw_ U' i t = σ t))
def nu (u : Nat) : Nat := if u = 16 then 16 else u + 1
theorem k_rem1 (x : Nat) (F : Nat → Int) (P : Nat → Option Nat) (A : Nat → Int → Int) (f l : Nat → Int) (a : Nat → Int → Int) (b : fk_M) {n kk : Nat} {g : Nat → Nat} {u ep cp pa : Nat} {gp : Nat → Option Nat} {ps : Nat → Nat} {U : Int → Int} (hu : u ≤ 16) (h101 : F 101 = u) (h100 : P 100 = some ep) (hL : Lk b (g 40) x u ep cp gp) (hps : ∀ i, i < u → gp i = some (ps i) ∧ Sg b pa (ps i) (rw_ U i) ∧ x + 24 ≤ ps i) : ∃ (F1 : Nat → Int) (b1 : fk_M) (gp1 : Nat → Option Nat) (sz sh : Nat), f_X1_remembers g (some x) n kk (hp x F P A f l a b) = f_X1_remembers_J21 g (some x) n kk (hp x F1 P A f l a b1) ∧ F1 101 = (sz : Int) ∧ (∀ j, j ≠ 100 → j ≠ 101 → F1 j = F j) ∧ Lk b1 (g 40) x sz ep cp gp1 ∧ (∀ i, i < sz → gp1 i = some (ps (i + sh))) ∧ (∀ q, q ≠ ep → b1 q = b q) ∧ (cp = 0 → b1 = b) ∧ ((u = 16 ∧ sz = 15 ∧ sh = 1) ∨ (u ≠ 16 ∧ sz = u ∧ sh = 0)) := by
  unfold f_X1_remembers
  have hsz : f_J2_size (some (x + 2)) (hp x F P A f l a b) = some (ii (F 101)) := by
    unfold f_J2_size
    rw [gl2_2, Option.bind_some]
  rw [gkr7, Option.bind_some, ok2, Option.bind_some, hsz, Option.bind_some, h101]
  by_cases h16 : u = 16
  · subst h16
    rcases hL with ⟨-, -, h0, -⟩ | ⟨hc, h1, h2, hb⟩
    · omega
    have e0 : (hp x F P A f l a b) = hp x (u1 (u1 F 100 (F 100)) 101 ((16 : Nat) : Int)) (uP P 100 (some ep)) A f l a b := by
      rw [u1_self (F := F) (k := 100) rfl, u1_self h101, uP_self h100]
    have hr := (LH2 x F P A f l a b).rem0 (c := F 100) hb (Or.inr h1) h2 (by omega) (by omega) (fun i hi => by
      obtain ⟨p1, p2, p3⟩ := hps i hi
      obtain ⟨⟨V, v1, -⟩, -⟩ := p2
      exact ⟨ps i, 13, true, V, p1, v1, Or.inr p3, Or.inr (Or.inr (Or.inr rfl))⟩)
    rw [← e0] at hr
    have hr : f_J2_remove (some (x + 2)) 0 (hp x F P A f l a b) = _ := hr
    rw [if_pos (show ii ((16 : Nat) : Int) = 16 from rfl), Option.bind_some, ok2, Option.bind_some, hr, bn2_some]
    refine ⟨u1 (u1 F 100 (F 100 + 1)) 101 (((16 : Nat) : Int) - 1), fk_up b ep (aQ cp (va_up (va_cpy gp gp 1 0 (16 - 1)) (16 - 1) none)), va_up (va_cpy gp gp 1 0 (16 - 1)) (16 - 1) none, 15, 1, ?_, ?_, ?_, Or.inr ⟨hc, h1, by omega, up_eq ..⟩, fun i hi => ?_, fun q hq => up_ne _ _ hq, fun h0 => by omega, Or.inl ⟨rfl, rfl, rfl⟩⟩
    · rw [uP_self h100]
    · rw [u1_eq]
      rfl
    · intro j j1 j2
      rw [u1_ne _ _ j2, u1_ne _ _ j1]
    · unfold va_up va_cpy
      rw [if_neg (by omega), if_pos (by omega), show 1 + (i - 0) = i + 1 by omega]
      exact (hps (i + 1) (by omega)).1
  · rw [if_neg (by rw [show (16 : Int32) = ii 16 from rfl, ii_eq (by omega) (by omega)]; omega)]
    exact ⟨F, b, gp, u, 0, rfl, h101, fun _ _ _ => rfl, hL, fun i hi => (hps i hi).1, fun _ _ => rfl, fun _ => rfl, Or.inr ⟨h16, rfl, rfl⟩⟩
theorem k_remembers (x : Nat) (F : Nat → Int) (P : Nat → Option Nat) (A : Nat → Int → Int) (f l : Nat → Int) (a : Nat → Int → Int) (b : fk_M) {n kk : Nat} {g : Nat → Nat} {ρ τ σ U : Int → Int} {u : Nat} {K : Int → Int} {k : Nat} (hK : KI x n g F P b 1 ρ τ σ U u K k) : ∃ F' P' b' n' k', f_X1_remembers g (some x) n kk (hp x F P A f l a b) = some (n', k', hp x F' P' A f l a b') ∧ (∀ U', Nt U σ U' u → KI x n' g F' P' b' 1 ρ τ σ U' (nu u) K k) ∧ (∀ j, j ≠ 100 → j ≠ 101 → F' j = F j) ∧ P' 5 = P 5 ∧ n ≤ n' ∧ n' ≤ n + 5 ∧ kk ≤ k' ∧ k' ≤ kk + 62 ∧ ∀ q, Lw x b q → b' q = b q := by
  obtain ⟨⟨hf, hx, hg, hu, hk, h101, h111⟩, ep, cp, gp, ei, ci, gi, p100, p110, hLp, hLi, hne, h0 | ⟨-, hR, q, lw, hk', pa, sg, un, l4, l5, l6, e4, e6, ps, im, p5, p6, hG, hp4, hi4, ⟨hS, hsx⟩, hps, him, hdp, hdi⟩⟩ := hK
  · omega
  obtain ⟨F1, b1, gp1, sz, sh, r1, r2, r3, r4, r5, r6, r7, r8⟩ := k_rem1 x F P A f l a b (n := n) (kk := kk) hu h101 p100 hLp (fun i hi => ⟨(hps i hi).1, (hps i hi).2.1, (hps i hi).2.2.2.1⟩)
  have hsz : sz ≤ 15 := by omega
  obtain ⟨hepn, wp, hepb⟩ := hLp.lt hf
  obtain ⟨hein, wi', heib⟩ := hLi.lt hf
  have hf1 : ∀ q, n ≤ q → b1 q = none := fun q hq => by rw [r6 q (by omega)]; exact hf q hq
  have hS1 : Sg b1 pa sg σ := hS.cg (fun q q1 q2 => r6 q (hS.ne hepb q q1 q2)) (fun _ _ _ => rfl)
  obtain ⟨Vs, vs1, -⟩ := hS1.1
  have e0 : hp x F1 P A f l a b1 = hp x (u1 (u1 F1 100 (F1 100)) 101 (sz : Int)) (uP P 100 (some ep)) A f l a b1 := by
    rw [u1_self (F := F1) (k := 100) rfl, u1_self r2, uP_self p100]
  obtain ⟨ep2, cp2, gp2, n2, k2, b2, t1, t2, t3, t4, t5, t6, t7, t8, t9⟩ := (LH2 x F1 P A f l a b1).push (c := F1 100) (k := kk) g hx hg hf1 r4 (by omega) vs1 hsx (Or.inr (Or.inr (Or.inr rfl))) (fun i hi => by
    obtain ⟨z1, z2, z3, z4, z5⟩ := hps (i + sh) (by omega)
    have z2' : Sg b1 pa (ps (i + sh)) (rw_ U (i + sh)) := z2.cg (fun q q1 q2 => r6 q (z2.ne hepb q q1 q2)) (fun _ _ _ => rfl)
    obtain ⟨⟨V, v1, -⟩, -⟩ := z2'
    exact ⟨ps (i + sh), 13, true, V, r5 i hi, v1, z4, Or.inr (Or.inr (Or.inr rfl))⟩)
  rw [← e0] at t1
  -- the heap behind the list
  have hn2 : n ≤ n2 ∧ n2 ≤ n + 1 ∧ (ep2 = ep ∨ ep2 = n) ∧ ep2 < n2 := by omega
  have hb2 : ∀ q, q ≠ ep → q ≠ ep2 → b2 q = b q := fun q q1 q2 => (t6 q q2).trans (r6 q q1)
  have hf2 : ∀ q, n2 ≤ q → b2 q = none := fun q hq => by rw [hb2 q (by omega) (by omega)]; exact hf q (by omega)
  have hst : ∀ {s : Nat} {R : Int → Int}, Sg b pa s R → ∀ q, s ≤ q → q < s + 4 → b2 q = b q := fun {s R} hs q q1 q2 => by
    have := hs.lt hf
    have := hs.ne hepb q q1 q2
    exact hb2 q this (by omega)
  have hS2 : Sg b2 pa sg σ := hS.cg (hst hS) (fun _ _ _ => rfl)
  obtain ⟨F2, hF2⟩ : ∃ F2, F2 = u1 (u1 F1 100 (F1 100 + 1)) 101 ((sz : Int) + 1) := ⟨_, rfl⟩
  obtain ⟨P2, hP2⟩ : ∃ P2, P2 = uP P 100 (some ep2) := ⟨_, rfl⟩
  have t1 : f_J2_add g (some (x + 2)) (some sg) n kk (hp x F1 P A f l a b1) = some (1, n2, k2, hp x F2 P2 A f l a b2) := by rw [hF2, hP2]; exact t1
  have hsn := hS2.lt hf2
  have hSh : Sg (hp x F2 P2 A f l a b2) pa sg σ := hS2.cg (fun q q1 q2 => hp_out _ _ _ _ _ _ _ _ (Or.inr (by omega))) (fun _ _ _ => rfl)
  obtain ⟨m', c1, c2, c3⟩ := st_copy (k := k2) hSh hsn
  have hm' : m' = hp x F2 P2 A f l a m' := hp_fix x F2 P2 A f l a b2 (fun j hj => c3 _ (by omega))
  have p26 : P2 6 = some sg := by rw [hP2, uP_ne _ _ (by omega), p6]
  have hmb : ∀ q, Ob x q → (q < n2 ∨ n2 + 4 ≤ q) → m' q = b2 q := fun q o h => (c3 q h).trans (hp_out _ _ _ _ _ _ _ _ o)
  refine ⟨F2, uP P2 6 (some n2), m', n2 + 4, k2 + 40, ?_, fun U' hN => ?_, ?_, ?_, by omega, by omega, by omega, by omega, fun q hq => ?_⟩
  · rw [r1]
    unfold f_X1_remembers_J21
    rw [gkr7, Option.bind_some, gkr6, Option.bind_some, p6, ok2, Option.bind_some, t1, bn4_some, gkr6, Option.bind_some, p26, isO_of hSh.1.choose_spec.1, Option.bind_some, c1, bn4_some, hm', pkr6, Option.bind_some, ← hm']
  · have hst' : ∀ {s : Nat} {R : Int → Int}, Sg b pa s R → x + 24 ≤ s → ∀ q, s ≤ q → q < s + 4 → m' q = b q := fun {s R} hs hx' q q1 q2 => by
      have := hs.lt hf
      rw [hmb q (Or.inr (by omega)) (by omega)]
      exact hst hs q q1 q2
    have he2 : m' ep2 = b2 ep2 := hmb ep2 (by
      rcases hn2.2.2.1 with h | h
      · rw [h]
        rcases hLp with ⟨-, h1, -⟩ | ⟨-, h1, -⟩
        · exact Or.inl (by omega)
        · exact Or.inr h1
      · exact Or.inr (by omega)) (by omega)
    have hei : m' ei = b ei := by
      have hOe : Ob x ei := by
        rcases hLi with ⟨-, h1, -⟩ | ⟨-, h1, -⟩
        · exact Or.inl (by omega)
        · exact Or.inr h1
      have h1 : ei ≠ ep2 := by
        rcases t2 with ⟨h, -⟩ | ⟨-, h2, -⟩
        · omega
        · intro h
          rcases t7 with ⟨-, h3, h4⟩ | ⟨-, h3⟩
          · have h5 : ci ≠ 0 := by
              intro h5
              rcases hLi with ⟨-, h6, -⟩ | ⟨h6, -⟩
              · omega
              · omega
            exact hne h4 h5 (by omega)
          · omega
      rw [hmb ei hOe (by omega), t6 ei h1]
      by_cases h2 : ei = ep
      · have h5 : cp = 0 := by
          by_cases h5 : cp = 0
          · exact h5
          · by_cases h6 : ci = 0
            · rcases hLp with ⟨h7, -⟩ | ⟨-, h7, -⟩
              · exact h7
              · rcases hLi with ⟨-, h8, -⟩ | ⟨h8, -⟩
                · omega
                · omega
            · exact absurd h2.symm (hne h5 h6)
        rw [r7 h5]
      · exact r6 ei h2
    have hu' : nu u = sz + 1 := by
      unfold nu
      split <;> omega
    rw [hu']
    refine ⟨⟨fun q hq => ?_, by omega, hg, by omega, hk, ?_, ?_⟩, ep2, cp2, gp2, ei, ci, gi, ?_, ?_, t2.cg he2, hLi.cg hei, ?_, Or.inr ⟨rfl, hR, q, lw, hk', pa, n2, un, l4, l5, l6, e4, e6, fun i => if i < sz then ps (i + sh) else sg, im, ?_, ?_, ?_, ?_, hi4, ⟨c2, by omega⟩, ?_, ?_, ?_, ?_⟩⟩
    · rw [hmb q (Or.inr (by omega)) (Or.inr hq)]
      exact hf2 q (by omega)
    · rw [hF2, u1_eq]
      rfl
    · rw [hF2, u1_ne _ _ (by omega), u1_ne _ _ (by omega), r3 111 (by omega) (by omega)]
      exact h111
    · rw [uP_ne _ _ (by omega), hP2, uP_eq]
    · rw [uP_ne _ _ (by omega), hP2, uP_ne _ _ (by omega)]
      exact p110
    · intro _ h5
      rcases t7 with ⟨-, h3, h4⟩ | ⟨-, h3⟩
      · rw [h3]
        exact hne h4 h5
      · omega
    · rw [uP_ne _ _ (by omega), hP2, uP_ne _ _ (by omega)]
      exact p5
    · rw [uP_eq]
    · have hE4 : ∀ e, (e = e4 ∨ e = e6) → Ob x e → e < n → m' e = b e := by
        intro e he ho hen
        have h1 : e ≠ ep2 := by
          rcases t7 with ⟨-, h3, h4⟩ | ⟨-, h3⟩
          · have := hp4 h4
            omega
          · omega
        rw [hmb e ho (by omega), t6 e h1]
        by_cases h2 : e = ep
        · have h5 : cp = 0 := by
            by_cases h5 : cp = 0
            · exact h5
            · have := hp4 h5
              omega
          rw [r7 h5]
        · exact r6 e h2
      have hG' := hG
      obtain ⟨-, ⟨V4, w4, c4', g4, -, -, -, a4, -⟩, -, ⟨V6, w6, c6, g6, -, -, -, d4, -⟩, -, -, -, -, -, -, -, -, -, -, o6, o7⟩ := hG'
      have l4n : e4 < n := by
        by_cases hc : n ≤ e4
        · rw [hf _ hc] at a4; cases a4
        · omega
      have l6n : e6 < n := by
        by_cases hc : n ≤ e6
        · rw [hf _ hc] at d4; cases d4
        · omega
      refine hG.kp hR (fun a' w c ho ha hkd => ?_) (hE4 e4 (Or.inl rfl) o6 l4n) (hE4 e6 (Or.inr rfl) o7 l6n)
      have han : a' < n := by
        by_cases hc : n ≤ a'
        · rw [hf _ hc] at ha; cases ha
        · omega
      have h1 : a' ≠ ep := by
        intro h
        rw [h, hepb] at ha
        cases ha
        exact hkd
      rw [hmb a' ho (by omega), hb2 a' h1 (by omega)]
      exact ha
    · intro _
      rcases t7 with ⟨-, h3, h4⟩ | ⟨-, h3⟩
      · rw [h3]
        exact hp4 h4
      · have hG' := hG
        obtain ⟨-, ⟨V4, w4, c4', g4, -, -, -, a4, -⟩, -, ⟨V6, w6, c6, g6, -, -, -, d4, -⟩, -⟩ := hG'
        refine ⟨fun h => ?_, fun h => ?_⟩
        · rw [← h, h3, hf n (Nat.le_refl n)] at a4
          cases a4
        · rw [← h, h3, hf n (Nat.le_refl n)] at d4
          cases d4
    · intro i hi
      by_cases hc : i < sz
      · obtain ⟨z1, z2, z3, z4, z5⟩ := hps (i + sh) (by omega)
        have hrow : ∀ t, 0 ≤ t → t < 36 → rw_ U' i t = rw_ U (i + sh) t := fun t t0 t1 => by
          obtain ⟨n1, n2'⟩ := hN i t t0 t1
          rcases r8 with ⟨h1, h2, h3⟩ | ⟨h1, h2, h3⟩
          · rw [h3]
            exact (n1 h1).1 (by omega)
          · rw [h3]
            exact (n2' h1).1 (by omega)
        dsimp only
        rw [if_pos hc]
        exact ⟨(t4 i hc).trans (r5 i hc), z2.cg (hst' z2 z4) hrow, z3.cg hrow, z4, by have := z2.lt hf; omega⟩
      · obtain rfl : i = sz := by omega
        have hrow : ∀ t, 0 ≤ t → t < 36 → rw_ U' i t = σ t := fun t t0 t1 => by
          obtain ⟨n1, n2'⟩ := hN i t t0 t1
          rcases r8 with ⟨h1, h2, h3⟩ | ⟨h1, h2, h3⟩
          · exact (n1 h1).2 (by omega)
          · exact (n2' h1).2 (by omega)
        dsimp only
        rw [if_neg hc]
        exact ⟨t5, hS.cg (hst' hS hsx) hrow, hR.cg hrow, hsx, by have := hS.lt hf; omega⟩
    · intro i hi
      obtain ⟨z1, z2, z3, z4, z5⟩ := him i hi
      exact ⟨z1, z2.cg (hst' z2 z4) (fun _ _ _ => rfl), z3, z4, by have := z2.lt hf; omega⟩
    · intro i j hi hj hij
      dsimp only
      by_cases hc : i < sz
      · rw [if_pos hc]
        by_cases hc2 : j < sz
        · rw [if_pos hc2]
          exact hdp _ _ (by omega) (by omega) (by omega)
        · rw [if_neg hc2]
          have := (hps (i + sh) (by omega)).2.2.2.2
          omega
      · rw [if_neg hc, if_pos (by omega)]
        exact (hps (j + sh) (by omega)).2.2.2.2
    · intro i j hi hj
      dsimp only
      by_cases hc : i < sz
      · rw [if_pos hc]
        exact hdi _ _ (by omega) hj
      · rw [if_neg hc]
        exact (him j hj).2.2.2.2
  · intro j j1 j2
    rw [hF2, u1_ne _ _ j2, u1_ne _ _ j1]
    exact r3 j j1 j2
  · rw [uP_ne _ _ (by omega), hP2, uP_ne _ _ (by omega)]
  · have hqn : q < n := hq.lt (by omega) hf
    have h20 : x + 24 ≤ ep2 := by
      rcases t2 with ⟨h, -⟩ | ⟨-, h2, -⟩
      · exact absurd h t3
      · exact h2
    have h2 : q ≠ ep2 := by
      rcases hn2.2.2.1 with h | h
      · rw [h] at h20 ⊢
        exact hq.ne hepb (by omega)
      · omega
    rw [hmb q hq.ob (Or.inl (by omega)), t6 q h2]
    by_cases h3 : q = ep
    · have h4 : cp = 0 := by
        rcases hLp with ⟨h7, -⟩ | ⟨-, h7, -⟩
        · exact h7
        · exact absurd h3 (hq.ne hepb (by omega))
      rw [r7 h4]
    · exact r6 q h3
