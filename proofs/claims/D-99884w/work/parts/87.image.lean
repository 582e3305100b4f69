/-! PLAIN 32: images: the component; undo, image, back: the model -/
set_option maxRecDepth 100000
/-- a copy of a stage, in the law's heap -/
theorem k_copy (x : Nat) (F : Nat → Int) (P : Nat → Option Nat) (A : Nat → Int → Int) (f l : Nat → Int) (a : Nat → Int → Int) (b : fk_M) {n kk : Nat} {pa s : Nat} {R : Int → Int} (hS : Sg b pa s R) (hs : x + 24 ≤ s) (hsn : s + 4 ≤ n) : ∃ m', f_X15_copy (some s) n kk (hp x F P A f l a b) = some (some n, n + 4, kk + 40, hp x F P A f l a m') ∧ Sg m' pa n R ∧ ∀ q, Ob x q → (q < n ∨ n + 4 ≤ q) → m' q = b q := by
  have hSh : Sg (hp x F P A f l a b) pa s R := hS.cg (fun q q1 q2 => hp_out _ _ _ _ _ _ _ _ (Or.inr (by omega))) (fun _ _ _ => rfl)
  obtain ⟨m', c1, c2, c3⟩ := st_copy (k := kk) hSh hsn
  have hm' : m' = hp x F P A f l a m' := hp_fix x F P A f l a b (fun j hj => c3 _ (by omega))
  refine ⟨m', ?_, c2, fun q o h => (c3 q h).trans (hp_out _ _ _ _ _ _ _ _ o)⟩
  rw [← hm']
  exact c1
theorem Ob.of_lk {b : fk_M} {e0 x sz ea cap : Nat} {gl : Nat → Option Nat} (h : Lk b e0 x sz ea cap gl) (h0 : e0 < x) : Ob x ea := by
  rcases h with ⟨-, h1, -⟩ | ⟨-, h1, -⟩
  · exact Or.inl (by omega)
  · exact Or.inr h1
theorem Lk.c0 {b : fk_M} {e0 x sz ea cap : Nat} {gl : Nat → Option Nat} (h : Lk b e0 x sz ea cap gl) (h0 : e0 < x) : (cap = 0 → ea < x) ∧ (cap ≠ 0 → x + 24 ≤ ea) := by
  rcases h with ⟨h2, h1, -⟩ | ⟨h2, h1, -⟩
  · exact ⟨fun _ => by omega, fun h => absurd h2 h⟩
  · exact ⟨fun h => by omega, fun _ => h1⟩
def w_image (h : Int) (k : Nat) : Int := if h = 1 then (if k = 3 then 3 else 0) else 1
/-- one row more -/
def Nk (K σ K' : Int → Int) (k : Nat) : Prop := ∀ (i : Nat) (t : Int), 0 ≤ t → t < 36 → (i < k → rw_ K' i t = rw_ K i t) ∧ (i = k → rw_ K' i t = σ t)
theorem k_image (x : Nat) (F : Nat → Int) (P : Nat → Option Nat) (A : Nat → Int → Int) (f l : Nat → Int) (a : Nat → Int → Int) (b : fk_M) {n kk : Nat} {g : Nat → Nat} {h : Int} {ρ τ σ U : Int → Int} {u : Nat} {K K' : Int → Int} {k : Nat} (hK : KI x n g F P b h ρ τ σ U u K k) : (w_image h k ≠ 0 → AR x n F P A f l a b kk (-1) (w_image h k) (f_X1_image g (some x) n kk (hp x F P A f l a b))) ∧ (w_image h k = 0 → Nk K σ K' k → AK x n g F A f l a b kk ρ τ σ U u K' (k + 1) (ii k) (f_X1_image g (some x) n kk (hp x F P A f l a b))) := by
  have hK0 := hK
  obtain ⟨⟨hf, hx, hg, hu, hk, h101, h111⟩, ep, cp, gp, ei, ci, gi, p100, p110, hLp, hLi, hne, hh⟩ := hK
  have e0 : ∀ b, hp x F P A f l a b = hp x (u1 (u1 F 110 (F 110)) 111 (k : Int)) (uP P 110 (some ei)) A f l a b := fun b => by
    rw [u1_self (F := F) (k := 110) rfl, u1_self h111, uP_self p110]
  have hszz := (LH3 x F P A f l a b).sz (F 110) (some ei) (k : Int) b
  try dsimp only at hszz
  rw [← e0] at hszz
  unfold f_X1_image w_image AR
  rw [gkr5, Option.bind_some]
  by_cases h0 : h = 1
  rotate_left
  · rw [if_neg h0, k_none hK0.kq h0, if_pos rfl, ok0, Option.bind_some, show (1 : Int32) = ii 1 from rfl, k_refused, bn2_some]
    exact ⟨fun _ => rfl, fun h => absurd h (by decide)⟩
  subst h0
  rcases hh with hh | ⟨-, hR, q, lw, hk', pa, sg, un, l4, l5, l6, e4, e6, ps, im, p5, p6, hG, hp4, hi4, ⟨hS, hsx⟩, hps, him, hdp, hdi⟩
  · omega
  rw [p5, if_neg (show ¬ some pa = none from fun h => by cases h), gkr8, Option.bind_some, ok3, Option.bind_some, hszz, Option.bind_some, if_pos rfl]
  by_cases h3 : k = 3
  · subst h3
    rw [if_pos rfl, if_pos (show ii ((3 : Nat) : Int) = 3 from rfl), ok0, Option.bind_some, show (3 : Int32) = ii 3 from rfl, k_refused, bn2_some]
    exact ⟨fun _ => rfl, fun h => absurd h (by decide)⟩
  rw [if_neg h3, if_neg (show ¬ ii (k : Int) = 3 by rw [show (3 : Int32) = ii 3 from rfl, ii_eq (by omega) (by omega)]; omega)]
  refine ⟨fun h => absurd rfl h, fun _ hN => ?_⟩
  have hsn := hS.lt hf
  obtain ⟨hepn, wp, hepb⟩ := hLp.lt hf
  obtain ⟨hein, wi', heib⟩ := hLi.lt hf
  have oep := Ob.of_lk hLp hg
  have oei := Ob.of_lk hLi hg
  obtain ⟨m1, c1, c2, c3⟩ := k_copy x F P A f l a b (kk := kk) hS hsx hsn
  have hf1 : ∀ q, n + 4 ≤ q → m1 q = none := fun q hq => by rw [c3 q (Or.inr (by omega)) (Or.inr hq)]; exact hf q (by omega)
  have hLi1 : Lk m1 (g 40) x k ei ci gi := hLi.cg (c3 ei oei (by omega))
  have hst1 : ∀ {s : Nat} {R : Int → Int}, Sg b pa s R → x + 24 ≤ s → ∀ q, s ≤ q → q < s + 4 → m1 q = b q := fun {s R} hs hx' q q1 q2 => by
    have := hs.lt hf
    exact c3 q (Or.inr (by omega)) (by omega)
  obtain ⟨Vn, vn, -⟩ := c2.1
  obtain ⟨ei2, ci2, gi2, n2, k2, b2, t1, t2, t3, t4, t5, t6, t7, t8, t9⟩ := (LH3 x F P A f l a m1).push (c := F 110) (k := kk + 40) (n := n + 4) g (by omega) hg hf1 hLi1 (by omega) vn (by omega) (Or.inr (Or.inr (Or.inr rfl))) (fun i hi => by
    obtain ⟨z1, z2, z3, z4, z5⟩ := him i hi
    obtain ⟨⟨V, v1, -⟩, -⟩ := z2.cg (hst1 z2 z4) (fun _ _ _ => rfl)
    exact ⟨im i, 13, true, V, z1, v1, z4, Or.inr (Or.inr (Or.inr rfl))⟩)
  rw [← e0] at t1
  obtain ⟨F2, hF2⟩ : ∃ F2, F2 = u1 (u1 F 110 (F 110 + 1)) 111 ((k : Int) + 1) := ⟨_, rfl⟩
  obtain ⟨P2, hP2⟩ : ∃ P2, P2 = uP P 110 (some ei2) := ⟨_, rfl⟩
  have t1 : f_J2_add g (some (x + 3)) (some n) (n + 4) (kk + 40) (hp x F P A f l a m1) = some (1, n2, k2, hp x F2 P2 A f l a b2) := by rw [hF2, hP2]; exact t1
  have hszz2 : f_J2_size (some (x + 3)) (hp x F2 P2 A f l a b2) = some (ii ((k : Int) + 1)) := by
    unfold f_J2_size
    rw [gl3_2, Option.bind_some, hF2, u1_eq]
  have hF2k : ∀ j, j ≠ 110 → j ≠ 111 → F2 j = F j := fun j j1 j2 => by rw [hF2, u1_ne _ _ j2, u1_ne _ _ j1]
  have hc := hLi.c0 hg
  have hn2 : n + 4 ≤ n2 ∧ n2 ≤ n + 5 ∧ (ei2 = ei ∨ ei2 = n + 4) ∧ ei2 < n2 ∧ x + 24 ≤ ei2 := by
    rcases t7 with ⟨h1, h2, h3⟩ | ⟨h1, h2⟩
    · have := hc.2 h3
      omega
    · omega
  have hb2 : ∀ q, Ob x q → (q < n ∨ n + 4 ≤ q) → q ≠ ei2 → b2 q = b q := fun q o h h' => (t6 q h').trans (c3 q o h)
  have hst : ∀ {s : Nat} {R : Int → Int}, Sg b pa s R → x + 24 ≤ s → ∀ q, s ≤ q → q < s + 4 → b2 q = b q := fun {s R} hs hx' q q1 q2 => by
    have := hs.lt hf
    have := hs.ne heib q q1 q2
    exact hb2 q (Or.inr (by omega)) (by omega) (by omega)
  have hcn : Sg b2 pa n σ := c2.cg (fun q q1 q2 => t6 q (by
    rcases hn2.2.2.1 with h | h
    · omega
    · omega)) (fun _ _ _ => rfl)
  have hG' := hG
  obtain ⟨-, ⟨V4, w4, c4', g4, -, -, -, a4, -⟩, -, ⟨V6, w6, c6, g6, -, -, -, d4, -⟩, -, -, -, -, -, -, -, -, -, -, o6, o7⟩ := hG'
  have l4n : e4 < n := by
    by_cases hc : n ≤ e4
    · rw [hf _ hc] at a4; cases a4
    · omega
  have l6n : e6 < n := by
    by_cases hc : n ≤ e6
    · rw [hf _ hc] at d4; cases d4
    · omega
  have h46 : ei2 ≠ e4 ∧ ei2 ≠ e6 := by
    rcases t7 with ⟨-, h2, h3⟩ | ⟨-, h2⟩
    · rw [h2]
      exact hi4 h3
    · omega
  refine ⟨Fo F2 0, P2, A, b2, n2, k2, ?_, ⟨⟨fun q hq => ?_, by omega, hg, hu, by omega, ?_, ?_⟩, ep, cp, gp, ei2, ci2, gi2, ?_, ?_, ?_, t2, ?_, Or.inr ⟨rfl, hR, q, lw, hk', pa, sg, un, l4, l5, l6, e4, e6, ps, fun i => if i < k then im i else n, ?_, ?_, hG.kp hR (fun a' w c ho ha hkd => ?_) ?_ ?_, hp4, fun _ => h46, ⟨hS.cg (hst hS hsx) (fun _ _ _ => rfl), hsx⟩, fun i hi => ?_, fun i hi => ?_, hdp, fun i j hi hj => ?_⟩⟩, ⟨Fo_4 .., Fo_3 .., ?_, ?_, rfl⟩, by omega, by omega, by omega, by omega, fun q hq => by
    have hqn : q < n := hq.lt (by omega) hf
    refine hb2 q hq.ob (Or.inl hqn) ?_
    rcases hn2.2.2.1 with h | h
    · rw [h]
      exact hq.ne heib (by omega)
    · omega⟩
  · rw [Option.bind_some, gkr6, Option.bind_some, p6, isO_of ((hp_out _ _ _ _ _ _ _ _ (Or.inr hsx)).trans hS.1.choose_spec.1), Option.bind_some, c1, bn4_some, ok3, Option.bind_some, t1, bn4_some, gkr8, Option.bind_some, ok3, Option.bind_some, hszz2, Option.bind_some, ok0, Option.bind_some, show (1 : Int32) = ii 1 from rfl, ii_sub, k_well, bn2_some, show (k : Int) + 1 - 1 = k by omega]
  · rw [hb2 q (Or.inr (by omega)) (by omega) (by omega)]
    exact hf q (by omega)
  · show u1 (u1 F2 4 0) 3 (-1) 101 = _
    rw [u1_ne _ _ (by omega), u1_ne _ _ (by omega), hF2k 101 (by omega) (by omega)]
    exact h101
  · show u1 (u1 F2 4 0) 3 (-1) 111 = _
    rw [u1_ne _ _ (by omega), u1_ne _ _ (by omega), hF2, u1_eq]
    rfl
  · rw [hP2, uP_ne _ _ (by omega)]
    exact p100
  · rw [hP2, uP_eq]
  · refine hLp.cg (hb2 ep oep (by omega) ?_)
    intro e
    rcases t7 with ⟨h1, h2, h3⟩ | ⟨h1, h2⟩
    · by_cases hcp : cp = 0
      · have := (hLp.c0 hg).1 hcp
        omega
      · exact hne hcp h3 (by omega)
    · omega
  · intro hcp _
    rcases t7 with ⟨h1, h2, h3⟩ | ⟨h1, h2⟩
    · rw [h2]
      exact hne hcp h3
    · omega
  · rw [hP2, uP_ne _ _ (by omega)]
    exact p5
  · rw [hP2, uP_ne _ _ (by omega)]
    exact p6
  · have han : a' < n := by
      by_cases hc : n ≤ a'
      · rw [hf _ hc] at ha; cases ha
      · omega
    rw [hb2 a' ho (by omega) (by
      rcases hn2.2.2.1 with h | h
      · intro e
        rw [e, h, heib] at ha
        cases ha
        exact hkd
      · omega)]
    exact ha
  · exact hb2 e4 o6 (by omega) (fun e => h46.1 e.symm)
  · exact hb2 e6 o7 (by omega) (fun e => h46.2 e.symm)
  · obtain ⟨z1, z2, z3, z4, z5⟩ := hps i hi
    exact ⟨z1, z2.cg (hst z2 z4) (fun _ _ _ => rfl), z3, z4, z5⟩
  · dsimp only
    by_cases hc : i < k
    · obtain ⟨z1, z2, z3, z4, z5⟩ := him i hc
      have hrow : ∀ t, 0 ≤ t → t < 36 → rw_ K' i t = rw_ K i t := fun t t0 t1 => (hN i t t0 t1).1 hc
      rw [if_pos hc]
      exact ⟨(t4 i hc).trans z1, z2.cg (hst z2 z4) hrow, z3.cg hrow, z4, z5⟩
    · obtain rfl : i = k := by omega
      have hrow : ∀ t, 0 ≤ t → t < 36 → rw_ K' i t = σ t := fun t t0 t1 => (hN i t t0 t1).2 rfl
      rw [if_neg hc]
      exact ⟨t5, hcn.cg (fun _ _ _ => rfl) hrow, hR.cg hrow, by omega, by omega⟩
  · dsimp only
    by_cases hc : j < k
    · rw [if_pos hc]
      exact hdi i j hi hc
    · rw [if_neg hc]
      have := (hps i hi).2.1.lt hf
      omega
  · show u1 (u1 F2 4 0) 3 (-1) 1 = _
    rw [u1_ne _ _ (by omega), u1_ne _ _ (by omega)]
    exact hF2k 1 (by omega) (by omega)
  · show u1 (u1 F2 4 0) 3 (-1) 2 = _
    rw [u1_ne _ _ (by omega), u1_ne _ _ (by omega)]
    exact hF2k 2 (by omega) (by omega)
theorem k_back (x : Nat) (F : Nat → Int) (P : Nat → Option Nat) (A : Nat → Int → Int) (f l : Nat → Int) (a : Nat → Int → Int) (b : fk_M) {n kk : Nat} {g : Nat → Nat} {h : Int} {ρ τ σ U : Int → Int} {u : Nat} {K : Int → Int} {k : Nat} (hK : KI x n g F P b h ρ τ σ U u K k) {i : Int} (hi0 : rg i) : (¬ (0 ≤ i ∧ i ≤ (k : Int) - 1) → AR x n F P A f l a b kk 0 1 (f_X1_back (some x) (ii i) n kk (hp x F P A f l a b))) ∧ ((0 ≤ i ∧ i ≤ (k : Int) - 1) → h = 1 ∧ AK x n g F A f l a b kk ρ τ (rw_ K i.toNat) U 0 K k (ii 1) (f_X1_back (some x) (ii i) n kk (hp x F P A f l a b))) := by
  obtain ⟨⟨hf, hx, hg, hu, hk, h101, h111⟩, ep, cp, gp, ei, ci, gi, p100, p110, hLp, hLi, hne, hh⟩ := hK
  have e0 : (hp x F P A f l a b) = hp x (u1 (u1 F 110 (F 110)) 111 (k : Int)) (uP P 110 (some ei)) A f l a b := by
    rw [u1_self (F := F) (k := 110) rfl, u1_self h111, uP_self p110]
  have hszz := (LH3 x F P A f l a b).sz (F 110) (some ei) (k : Int) b
  try dsimp only at hszz
  rw [← e0] at hszz
  have hin := k_in (hp x F P A f l a b) (v := i) (lo := 0) (hi := (k : Int) - 1) hi0 (by omega) (by omega)
  unfold f_X1_back AR
  rw [gkr8, Option.bind_some, ok3, Option.bind_some, hszz, Option.bind_some, show (1 : Int32) = ii 1 from rfl, ii_sub, show (0 : Int32) = ii 0 from rfl, hin, Option.bind_some]
  refine ⟨fun hc => ?_, fun hc => ?_⟩
  · rw [if_neg hc, if_pos rfl, ok0, Option.bind_some, k_denied, bn2_some, if_pos (show ii 0 = ii 0 ∨ ii 0 = ii 1 from Or.inl rfl)]
  rcases hh with hh | ⟨h1, hR, q, lw, hk', pa, sg, un, l4, l5, l6, e4, e6, ps, im, p5, p6, hG, hp4, hi4, ⟨hS, hsx⟩, hps, him, hdp, hdi⟩
  · omega
  refine ⟨h1, ?_⟩
  rw [if_pos hc, if_neg (show ¬ ii 1 = ii 0 by decide)]
  obtain ⟨hepn, wp, hepb⟩ := hLp.lt hf
  obtain ⟨hein, wi', heib⟩ := hLi.lt hf
  have oep := Ob.of_lk hLp hg
  have oei := Ob.of_lk hLi hg
  obtain ⟨z1, z2, z3, z4, z5⟩ := him i.toNat (by omega)
  have hkc : (k : Int) ≤ (ci : Int) := by
    rcases hLi with ⟨-, -, h3, -⟩ | ⟨-, -, h3, -⟩ <;> omega
  have hget := (LH3 x F P A f l a b).get (c := F 110) (i := i) (s := (k : Int)) heib oei hc.1 (by omega) hkc (by omega)
  rw [← e0, z1] at hget
  have hsn := z2.lt hf
  obtain ⟨m1, c1, c2, c3⟩ := k_copy x F P A f l a b (kk := kk) z2 z4 hsn
  have zc := z2.1.choose_spec.1
  have e2 : ∀ P' m, P' 100 = some ep → hp x F P' A f l a m = hp x (u1 (u1 F 100 (F 100)) 101 (u : Int)) (uP P' 100 (some ep)) A f l a m := fun P' m h => by
    rw [u1_self (F := F) (k := 100) rfl, u1_self h101, uP_self h]
  obtain ⟨P1, hP1⟩ : ∃ P1, P1 = uP P 6 (some n) := ⟨_, rfl⟩
  have p100' : P1 100 = some ep := by rw [hP1, uP_ne _ _ (by omega)]; exact p100
  have hst1 : ∀ {s : Nat} {R : Int → Int}, Sg b pa s R → x + 24 ≤ s → ∀ q, s ≤ q → q < s + 4 → m1 q = b q := fun {s R} hs hx' q q1 q2 => by
    have := hs.lt hf
    exact c3 q (Or.inr (by omega)) (by omega)
  have hep1 : m1 ep = b ep := c3 ep oep (by omega)
  obtain ⟨F2, hF2⟩ : ∃ F2, F2 = u1 (u1 F 100 (F 100 + 1)) 101 0 := ⟨_, rfl⟩
  have hF2k : ∀ j, j ≠ 100 → j ≠ 101 → F2 j = F j := fun j j1 j2 => by rw [hF2, u1_ne _ _ j2, u1_ne _ _ j1]
  have hcl : ∃ b2 gl', f_J2_clear (some (x + 2)) (hp x F P1 A f l a m1) = some (hp x F2 P1 A f l a b2) ∧ (∀ q, q ≠ ep → b2 q = m1 q) ∧ (cp = 0 → b2 = m1) ∧ Lk b2 (g 40) x 0 ep cp gl' := by
    rcases hLp with ⟨h2, h3, h4, w, h5⟩ | ⟨h2, h3, h4, h5⟩
    · subst h4
      have hcl := (LH2 x F P1 A f l a m1).clear0 (c := F 100) (some ep) m1
      have hcl : f_J2_clear (some (x + 2)) (hp x (u1 (u1 F 100 (F 100)) 101 0) (uP P1 100 (some ep)) A f l a m1) = some (hp x (u1 (u1 F 100 (F 100 + 1)) 101 0) (uP P1 100 (some ep)) A f l a m1) := hcl
      have e2' := e2 P1 m1 p100'
      have e2' : hp x F P1 A f l a m1 = hp x (u1 (u1 F 100 (F 100)) 101 0) (uP P1 100 (some ep)) A f l a m1 := e2'
      rw [← e2', uP_self p100', ← hF2] at hcl
      exact ⟨m1, gp, hcl, fun _ _ => rfl, fun _ => rfl, Or.inl ⟨h2, h3, rfl, w, hep1.trans h5⟩⟩
    · obtain ⟨gl', hcl⟩ := (LH2 x F P1 A f l a m1).clear (c := F 100) (hep1.trans h5) (Or.inr h3) h4 (by omega)
      have hcl : f_J2_clear (some (x + 2)) (hp x (u1 (u1 F 100 (F 100)) 101 (u : Int)) (uP P1 100 (some ep)) A f l a m1) = some (hp x (u1 (u1 F 100 (F 100 + 1)) 101 0) (uP P1 100 (some ep)) A f l a (fk_up m1 ep (aQ cp gl'))) := hcl
      rw [← e2 P1 m1 p100', uP_self p100', ← hF2] at hcl
      exact ⟨_, gl', hcl, fun q hq => up_ne _ _ hq, fun h => by omega, Or.inr ⟨h2, h3, by omega, up_eq ..⟩⟩
  obtain ⟨b2, gl', d1, d2, d3, d4⟩ := hcl
  have hb2 : ∀ q, Ob x q → (q < n ∨ n + 4 ≤ q) → q ≠ ep → b2 q = b q := fun q o h h' => (d2 q h').trans (c3 q o h)
  have hst : ∀ {s : Nat} {R : Int → Int}, Sg b pa s R → x + 24 ≤ s → ∀ q, s ≤ q → q < s + 4 → b2 q = b q := fun {s R} hs hx' q q1 q2 => by
    have := hs.lt hf
    exact hb2 q (Or.inr (by omega)) (by omega) (hs.ne hepb q q1 q2)
  have hcn : Sg b2 pa n (rw_ K i.toNat) := c2.cg (fun q q1 q2 => d2 q (by omega)) (fun _ _ _ => rfl)
  have hE : ∀ e, Ob x e → e < n → (cp ≠ 0 → ep ≠ e) → b2 e = b e := by
    intro e ho hen hep
    by_cases hcp : cp = 0
    · rw [d3 hcp]
      exact c3 e ho (by omega)
    · exact hb2 e ho (by omega) (fun h => hep hcp h.symm)
  have hG' := hG
  obtain ⟨-, ⟨V4, w4, c4', g4, -, -, -, a4, -⟩, -, ⟨V6, w6, c6, g6, -, -, -, d4', -⟩, -, -, -, -, -, -, -, -, -, -, o6, o7⟩ := hG'
  have l4n : e4 < n := by
    by_cases hc : n ≤ e4
    · rw [hf _ hc] at a4; cases a4
    · omega
  have l6n : e6 < n := by
    by_cases hc : n ≤ e6
    · rw [hf _ hc] at d4'; cases d4'
    · omega
  refine ⟨Fo F2 0, P1, A, b2, n + 4, kk + 40, ?_, ⟨⟨fun q hq => ?_, by omega, hg, by omega, hk, ?_, ?_⟩, ep, cp, gl', ei, ci, gi, p100', ?_, d4, ?_, hne, Or.inr ⟨rfl, z3, q, lw, hk', pa, n, un, l4, l5, l6, e4, e6, ps, im, ?_, ?_, hG.kp hR (fun a' w c ho ha hkd => ?_) (hE e4 o6 l4n (fun h => (hp4 h).1)) (hE e6 o7 l6n (fun h => (hp4 h).2)), hp4, hi4, ⟨hcn, by omega⟩, fun i hi => by omega, fun j hj => ?_, fun i j hi => by omega, fun i j hi => by omega⟩⟩, ⟨Fo_4 .., Fo_3 .., ?_, ?_, rfl⟩, by omega, by omega, by omega, by omega, fun q hq => by
    have hqn : q < n := hq.lt (by omega) hf
    by_cases hcp : cp = 0
    · rw [d3 hcp]
      exact c3 q hq.ob (Or.inl hqn)
    · have := (hLp.c0 hg).2 hcp
      exact hb2 q hq.ob (Or.inl hqn) (hq.ne hepb (by omega))⟩
  · rw [Option.bind_some, ok3, Option.bind_some, hget, Option.bind_some, cst_of ((hp_out _ _ _ _ _ _ _ _ (Or.inr z4)).trans zc), Option.bind_some, isO_of ((hp_out _ _ _ _ _ _ _ _ (Or.inr z4)).trans zc), Option.bind_some, c1, bn4_some, pkr6, Option.bind_some, ← hP1, gkr7, Option.bind_some, ok2, Option.bind_some, d1, Option.bind_some, ok0, Option.bind_some, k_granted, bn2_some, if_pos (show ii 1 = ii 0 ∨ ii 1 = ii 1 from Or.inr rfl)]
  · rw [hb2 q (Or.inr (by omega)) (Or.inr hq) (by omega)]
    exact hf q (by omega)
  · show u1 (u1 F2 4 0) 3 (-1) 101 = _
    rw [u1_ne _ _ (by omega), u1_ne _ _ (by omega), hF2, u1_eq]
    rfl
  · show u1 (u1 F2 4 0) 3 (-1) 111 = _
    rw [u1_ne _ _ (by omega), u1_ne _ _ (by omega), hF2k 111 (by omega) (by omega)]
    exact h111
  · rw [hP1, uP_ne _ _ (by omega)]
    exact p110
  · refine hLi.cg (hE ei oei hein (fun h => ?_))
    intro e
    by_cases hci : ci = 0
    · have := (hLi.c0 hg).1 hci
      have := (hLp.c0 hg).2 h
      omega
    · exact hne h hci e
  · rw [hP1, uP_ne _ _ (by omega)]
    exact p5
  · rw [hP1, uP_eq]
  · have han : a' < n := by
      by_cases hc : n ≤ a'
      · rw [hf _ hc] at ha; cases ha
      · omega
    rw [hb2 a' ho (by omega) (by
      intro e
      rw [e, hepb] at ha
      cases ha
      exact hkd)]
    exact ha
  · obtain ⟨y1, y2, y3, y4, y5⟩ := him j hj
    exact ⟨y1, y2.cg (hst y2 y4) (fun _ _ _ => rfl), y3, y4, by have := y2.lt hf; omega⟩
  · show u1 (u1 F2 4 0) 3 (-1) 1 = _
    rw [u1_ne _ _ (by omega), u1_ne _ _ (by omega)]
    exact hF2k 1 (by omega) (by omega)
  · show u1 (u1 F2 4 0) 3 (-1) 2 = _
    rw [u1_ne _ _ (by omega), u1_ne _ _ (by omega)]
    exact hF2k 2 (by omega) (by omega)
/-! the model -/
theorem m_undo (x : Nat) (F : Nat → Int) (P : Nat → Option Nat) (A : Nat → Int → Int) (f l : Nat → Int) (a : Nat → Int → Int) (b : fk_M) {u : Nat} (hu : u ≤ 16) (h22 : f 22 = u) : (u = 0 → f_X2_undo (some (x + 8)) (hp x F P A f l a b) = some (ii 0, hp x F P A (fo f 6) l a b)) ∧ (u ≠ 0 → ∃ a', f_X2_undo (some (x + 8)) (hp x F P A f l a b) = some (ii 1, hp x F P A (u1 (fo f 0) 22 ((u : Int) - 1)) l a' b) ∧ (∀ j, j ≠ 19 → a' j = a j) ∧ ∀ t, 0 ≤ t → t < 36 → a' 19 t = rw_ (a 20) (u - 1) t) := by
  have e22 : fo f 0 22 = u := h22
  unfold f_X2_undo
  refine ⟨fun h0 => ?_, fun h0 => ?_⟩
  · subst h0
    simp (disch := first | omega | assumption) only [Option.bind_some, bn2_some, ii_lit, ii_neg, ii_add, ii_sub, ii_mul, ii_le, ii_lt, ii_eq, ii_ite, ii_or, ii_and, ii_bit, ii_rem, ii_div, b0_, b1_, b2_, b3_, true_and, and_true, u1_eq, u1_ne, u2_eq, u2_nk, u2_ni, uP_eq, uP_ne, gk1, gk2, gk3, gk4, gk10, gk11, gk12, gk13, gk14, gk15, gk17, gkr0, gkr7, gkr8, gkr9, gkr16, gkr18, gkr19, gkr5, gkr6, ok0, ok1, ok2, ok3, gl2_0, gl2_1, gl2_2, gl3_0, gl3_1, gl3_2, gm0, gm2, gm3, gm4, gm5, gm6, gm7, gm8, gm9, gm10, gm11, gm13, gm14, gm22, gm23, gm26, gm27, gm28, gm29, gm31, gm32, gm33, gm36, gm37, gm39, gm40, gm41, gm1, gm12, gm15, gm16, gm17, gm18, gm19, gm20, gm21, gm24, gm25, gm30, gm34, gm35, gm38, rk0, sk0, rk9, sk9, rk16, sk16, rk18, sk18, rk19, sk19, rm1, sm1, rm12, sm12, rm15, sm15, rm16, sm16, rm17, sm17, rm18, sm18, rm19, sm19, rm20, sm20, rm21, sm21, rm24, sm24, rm25, sm25, rm30, sm30, rm34, sm34, rm35, sm35, rm38, sm38, pk1, pk2, pk3, pk4, pk10, pk11, pk12, pk13, pk14, pk15, pk17, pkr5, pkr6, pm0, pm2, pm3, pm4, pm5, pm6, pm7, pm8, pm9, pm10, pm11, pm13, pz13_0, pz13_1, pm14, pz14_0, pz14_1, pm22, pm23, pm26, pm27, pm28, pm29, pm31, pm32, pm33, pm36, pm37, pm39, pm40, pm41, pl2_0, pl2_1, pl2_2, pl3_0, pl3_1, pl3_2, m_good, e22, h22, m_isNot, u1_u1, true_or, if_true]
    rw [if_pos (show (((0 : Nat) : Int)) = 0 from rfl)]
  · obtain ⟨a', g1, g2, g3⟩ := m_copy x F P A (u1 (fo f 0) 22 ((u : Int) - 1)) l a b 16 15 (by omega) (by omega) (by decide) (i := 36 * ((u : Int) - 1)) (j := 0) (n := 36) (by omega) (by omega) (by omega) (by omega) (by show 36 * ((u : Int) - 1) + 36 ≤ 576; omega) (by decide) (by omega) (by omega)
    refine ⟨a', ?_, g2, fun t t0 t1 => ?_⟩
    · simp (disch := first | omega | assumption) only [Option.bind_some, bn2_some, ii_lit, ii_neg, ii_add, ii_sub, ii_mul, ii_le, ii_lt, ii_eq, ii_ite, ii_or, ii_and, ii_bit, ii_rem, ii_div, b0_, b1_, b2_, b3_, true_and, and_true, u1_eq, u1_ne, u2_eq, u2_nk, u2_ni, uP_eq, uP_ne, gk1, gk2, gk3, gk4, gk10, gk11, gk12, gk13, gk14, gk15, gk17, gkr0, gkr7, gkr8, gkr9, gkr16, gkr18, gkr19, gkr5, gkr6, ok0, ok1, ok2, ok3, gl2_0, gl2_1, gl2_2, gl3_0, gl3_1, gl3_2, gm0, gm2, gm3, gm4, gm5, gm6, gm7, gm8, gm9, gm10, gm11, gm13, gm14, gm22, gm23, gm26, gm27, gm28, gm29, gm31, gm32, gm33, gm36, gm37, gm39, gm40, gm41, gm1, gm12, gm15, gm16, gm17, gm18, gm19, gm20, gm21, gm24, gm25, gm30, gm34, gm35, gm38, rk0, sk0, rk9, sk9, rk16, sk16, rk18, sk18, rk19, sk19, rm1, sm1, rm12, sm12, rm15, sm15, rm16, sm16, rm17, sm17, rm18, sm18, rm19, sm19, rm20, sm20, rm21, sm21, rm24, sm24, rm25, sm25, rm30, sm30, rm34, sm34, rm35, sm35, rm38, sm38, pk1, pk2, pk3, pk4, pk10, pk11, pk12, pk13, pk14, pk15, pk17, pkr5, pkr6, pm0, pm2, pm3, pm4, pm5, pm6, pm7, pm8, pm9, pm10, pm11, pm13, pz13_0, pz13_1, pm14, pz14_0, pz14_1, pm22, pm23, pm26, pm27, pm28, pm29, pm31, pm32, pm33, pm36, pm37, pm39, pm40, pm41, pl2_0, pl2_1, pl2_2, pl3_0, pl3_1, pl3_2, m_good, e22, h22, g1]
      rw [if_neg (by omega)]
    · have g3 : a' 19 t = if 0 ≤ t ∧ t < 0 + 36 then a 20 (36 * ((u : Int) - 1) + (t - 0)) else a 19 t := g3 t
      unfold rw_
      rw [g3, if_pos (by omega), show 36 * ((u : Int) - 1) + (t - 0) = 36 * ((u - 1 : Nat) : Int) + t by omega]
theorem m_image (x : Nat) (F : Nat → Int) (P : Nat → Option Nat) (A : Nat → Int → Int) (f l : Nat → Int) (a : Nat → Int → Int) (b : fk_M) {k : Nat} (hk : k ≤ 3) (h23 : f 23 = k) (hM : Hm f a) : (w_image (f 14) k ≠ 0 → MO x F P A f l a b (-1) (w_image (f 14) k) (f_X2_image (some (x + 8)) (hp x F P A f l a b))) ∧ (w_image (f 14) k = 0 → ∃ a', f_X2_image (some (x + 8)) (hp x F P A f l a b) = some (ii k, hp x F P A (u1 (fo f 0) 23 ((k : Int) + 1)) l a' b) ∧ (∀ j, j ≠ 21 → a' j = a j) ∧ Nk (a 21) (a 19) (a' 21) k) := by
  have e23 : fo f 0 23 = k := h23
  unfold f_X2_image w_image
  rw [ok1, Option.bind_some, m_good, Option.bind_some, gm14, Option.bind_some, show fo f 0 14 = f 14 from rfl]
  obtain h | ⟨h, hR⟩ := hM
  · rw [h, if_pos (show ii 0 = 0 from rfl), if_neg (by decide)]
    simp (disch := first | omega | assumption) only [Option.bind_some, bn2_some, ii_lit, ii_neg, ii_add, ii_sub, ii_mul, ii_le, ii_lt, ii_eq, ii_ite, ii_or, ii_and, ii_bit, ii_rem, ii_div, b0_, b1_, b2_, b3_, true_and, and_true, u1_eq, u1_ne, u2_eq, u2_nk, u2_ni, uP_eq, uP_ne, gk1, gk2, gk3, gk4, gk10, gk11, gk12, gk13, gk14, gk15, gk17, gkr0, gkr7, gkr8, gkr9, gkr16, gkr18, gkr19, gkr5, gkr6, ok0, ok1, ok2, ok3, gl2_0, gl2_1, gl2_2, gl3_0, gl3_1, gl3_2, gm0, gm2, gm3, gm4, gm5, gm6, gm7, gm8, gm9, gm10, gm11, gm13, gm14, gm22, gm23, gm26, gm27, gm28, gm29, gm31, gm32, gm33, gm36, gm37, gm39, gm40, gm41, gm1, gm12, gm15, gm16, gm17, gm18, gm19, gm20, gm21, gm24, gm25, gm30, gm34, gm35, gm38, rk0, sk0, rk9, sk9, rk16, sk16, rk18, sk18, rk19, sk19, rm1, sm1, rm12, sm12, rm15, sm15, rm16, sm16, rm17, sm17, rm18, sm18, rm19, sm19, rm20, sm20, rm21, sm21, rm24, sm24, rm25, sm25, rm30, sm30, rm34, sm34, rm35, sm35, rm38, sm38, pk1, pk2, pk3, pk4, pk10, pk11, pk12, pk13, pk14, pk15, pk17, pkr5, pkr6, pm0, pm2, pm3, pm4, pm5, pm6, pm7, pm8, pm9, pm10, pm11, pm13, pz13_0, pz13_1, pm14, pz14_0, pz14_1, pm22, pm23, pm26, pm27, pm28, pm29, pm31, pm32, pm33, pm36, pm37, pm39, pm40, pm41, pl2_0, pl2_1, pl2_2, pl3_0, pl3_1, pl3_2, m_no, u1_u1]
    exact ⟨fun _ => MO.ref .., fun h => absurd h (by decide)⟩
  rw [h, if_neg (show ¬ ii 1 = 0 by decide), if_pos rfl]
  by_cases h3 : k = 3
  · subst h3
    rw [if_pos rfl]
    simp (disch := first | omega | assumption) only [Option.bind_some, bn2_some, ii_lit, ii_neg, ii_add, ii_sub, ii_mul, ii_le, ii_lt, ii_eq, ii_ite, ii_or, ii_and, ii_bit, ii_rem, ii_div, b0_, b1_, b2_, b3_, true_and, and_true, u1_eq, u1_ne, u2_eq, u2_nk, u2_ni, uP_eq, uP_ne, gk1, gk2, gk3, gk4, gk10, gk11, gk12, gk13, gk14, gk15, gk17, gkr0, gkr7, gkr8, gkr9, gkr16, gkr18, gkr19, gkr5, gkr6, ok0, ok1, ok2, ok3, gl2_0, gl2_1, gl2_2, gl3_0, gl3_1, gl3_2, gm0, gm2, gm3, gm4, gm5, gm6, gm7, gm8, gm9, gm10, gm11, gm13, gm14, gm22, gm23, gm26, gm27, gm28, gm29, gm31, gm32, gm33, gm36, gm37, gm39, gm40, gm41, gm1, gm12, gm15, gm16, gm17, gm18, gm19, gm20, gm21, gm24, gm25, gm30, gm34, gm35, gm38, rk0, sk0, rk9, sk9, rk16, sk16, rk18, sk18, rk19, sk19, rm1, sm1, rm12, sm12, rm15, sm15, rm16, sm16, rm17, sm17, rm18, sm18, rm19, sm19, rm20, sm20, rm21, sm21, rm24, sm24, rm25, sm25, rm30, sm30, rm34, sm34, rm35, sm35, rm38, sm38, pk1, pk2, pk3, pk4, pk10, pk11, pk12, pk13, pk14, pk15, pk17, pkr5, pkr6, pm0, pm2, pm3, pm4, pm5, pm6, pm7, pm8, pm9, pm10, pm11, pm13, pz13_0, pz13_1, pm14, pz14_0, pz14_1, pm22, pm23, pm26, pm27, pm28, pm29, pm31, pm32, pm33, pm36, pm37, pm39, pm40, pm41, pl2_0, pl2_1, pl2_2, pl3_0, pl3_1, pl3_2, m_no, u1_u1, e23, h23]
    rw [if_pos (show (((3 : Nat) : Int)) = 3 from rfl)]
    exact ⟨fun _ => MO.ref .., fun h => absurd h (by decide)⟩
  · rw [if_neg h3]
    refine ⟨fun h => absurd rfl h, fun _ => ?_⟩
    obtain ⟨a', g1, g2, g3⟩ := m_copy x F P A (fo f 0) l a b 15 17 (by omega) (by omega) (by decide) (i := 0) (j := 36 * (k : Int)) (n := 36) (by omega) (by omega) (by omega) (by omega) (by decide) (by show 36 * (k : Int) + 36 ≤ 108; omega) (by omega) (by omega)
    refine ⟨a', ?_, g2, fun i t t0 t1 => ?_⟩
    · simp (disch := first | omega | assumption) only [Option.bind_some, bn2_some, ii_lit, ii_neg, ii_add, ii_sub, ii_mul, ii_le, ii_lt, ii_eq, ii_ite, ii_or, ii_and, ii_bit, ii_rem, ii_div, b0_, b1_, b2_, b3_, true_and, and_true, u1_eq, u1_ne, u2_eq, u2_nk, u2_ni, uP_eq, uP_ne, gk1, gk2, gk3, gk4, gk10, gk11, gk12, gk13, gk14, gk15, gk17, gkr0, gkr7, gkr8, gkr9, gkr16, gkr18, gkr19, gkr5, gkr6, ok0, ok1, ok2, ok3, gl2_0, gl2_1, gl2_2, gl3_0, gl3_1, gl3_2, gm0, gm2, gm3, gm4, gm5, gm6, gm7, gm8, gm9, gm10, gm11, gm13, gm14, gm22, gm23, gm26, gm27, gm28, gm29, gm31, gm32, gm33, gm36, gm37, gm39, gm40, gm41, gm1, gm12, gm15, gm16, gm17, gm18, gm19, gm20, gm21, gm24, gm25, gm30, gm34, gm35, gm38, rk0, sk0, rk9, sk9, rk16, sk16, rk18, sk18, rk19, sk19, rm1, sm1, rm12, sm12, rm15, sm15, rm16, sm16, rm17, sm17, rm18, sm18, rm19, sm19, rm20, sm20, rm21, sm21, rm24, sm24, rm25, sm25, rm30, sm30, rm34, sm34, rm35, sm35, rm38, sm38, pk1, pk2, pk3, pk4, pk10, pk11, pk12, pk13, pk14, pk15, pk17, pkr5, pkr6, pm0, pm2, pm3, pm4, pm5, pm6, pm7, pm8, pm9, pm10, pm11, pm13, pz13_0, pz13_1, pm14, pz14_0, pz14_1, pm22, pm23, pm26, pm27, pm28, pm29, pm31, pm32, pm33, pm36, pm37, pm39, pm40, pm41, pl2_0, pl2_1, pl2_2, pl3_0, pl3_1, pl3_2, e23, h23, g1]
      rw [if_neg (by omega), show (k : Int) + 1 - 1 = k by omega]
    · have g3 : ∀ t, a' 21 t = if 36 * (k : Int) ≤ t ∧ t < 36 * (k : Int) + 36 then a 19 (0 + (t - 36 * (k : Int))) else a 21 t := g3
      unfold rw_
      refine ⟨fun hi => ?_, fun hi => ?_⟩
      · rw [g3, if_neg (by omega)]
      · subst hi
        rw [g3, if_pos (by omega), show 0 + (36 * (i : Int) + t - 36 * (i : Int)) = t by omega]
theorem m_back (x : Nat) (F : Nat → Int) (P : Nat → Option Nat) (A : Nat → Int → Int) (f l : Nat → Int) (a : Nat → Int → Int) (b : fk_M) {k : Nat} (hk : k ≤ 3) (h23 : f 23 = k) {i : Int} (hi0 : rg i) : (¬ (0 ≤ i ∧ i ≤ (k : Int) - 1) → f_X2_back (some (x + 8)) (ii i) (hp x F P A f l a b) = some (ii 0, hp x F P A (fo f 1) l a b)) ∧ ((0 ≤ i ∧ i ≤ (k : Int) - 1) → ∃ a', f_X2_back (some (x + 8)) (ii i) (hp x F P A f l a b) = some (ii 1, hp x F P A (u1 (fo f 0) 22 0) l a' b) ∧ (∀ j, j ≠ 19 → a' j = a j) ∧ ∀ t, 0 ≤ t → t < 36 → a' 19 t = rw_ (a 21) i.toNat t) := by
  have e23 : fo f 0 23 = k := h23
  have hin := m_in (hp x F P A (fo f 0) l a b) (v := i) (lo := 0) (hi := (k : Int) - 1) hi0 (by omega) (by omega)
  unfold f_X2_back
  refine ⟨fun hc => ?_, fun hc => ?_⟩
  · simp (disch := first | omega | assumption) only [Option.bind_some, bn2_some, ii_lit, ii_neg, ii_add, ii_sub, ii_mul, ii_le, ii_lt, ii_eq, ii_ite, ii_or, ii_and, ii_bit, ii_rem, ii_div, b0_, b1_, b2_, b3_, true_and, and_true, u1_eq, u1_ne, u2_eq, u2_nk, u2_ni, uP_eq, uP_ne, gk1, gk2, gk3, gk4, gk10, gk11, gk12, gk13, gk14, gk15, gk17, gkr0, gkr7, gkr8, gkr9, gkr16, gkr18, gkr19, gkr5, gkr6, ok0, ok1, ok2, ok3, gl2_0, gl2_1, gl2_2, gl3_0, gl3_1, gl3_2, gm0, gm2, gm3, gm4, gm5, gm6, gm7, gm8, gm9, gm10, gm11, gm13, gm14, gm22, gm23, gm26, gm27, gm28, gm29, gm31, gm32, gm33, gm36, gm37, gm39, gm40, gm41, gm1, gm12, gm15, gm16, gm17, gm18, gm19, gm20, gm21, gm24, gm25, gm30, gm34, gm35, gm38, rk0, sk0, rk9, sk9, rk16, sk16, rk18, sk18, rk19, sk19, rm1, sm1, rm12, sm12, rm15, sm15, rm16, sm16, rm17, sm17, rm18, sm18, rm19, sm19, rm20, sm20, rm21, sm21, rm24, sm24, rm25, sm25, rm30, sm30, rm34, sm34, rm35, sm35, rm38, sm38, pk1, pk2, pk3, pk4, pk10, pk11, pk12, pk13, pk14, pk15, pk17, pkr5, pkr6, pm0, pm2, pm3, pm4, pm5, pm6, pm7, pm8, pm9, pm10, pm11, pm13, pz13_0, pz13_1, pm14, pz14_0, pz14_1, pm22, pm23, pm26, pm27, pm28, pm29, pm31, pm32, pm33, pm36, pm37, pm39, pm40, pm41, pl2_0, pl2_1, pl2_2, pl3_0, pl3_1, pl3_2, m_good, e23, h23, hin, m_isNot, u1_u1, true_or, if_true]
    rw [if_pos hc]
  · obtain ⟨a', g1, g2, g3⟩ := m_copy x F P A (fo f 0) l a b 17 15 (by omega) (by omega) (by decide) (i := 36 * i) (j := 0) (n := 36) (by omega) (by omega) (by omega) (by omega) (by show 36 * i + 36 ≤ 108; omega) (by decide) (by omega) (by omega)
    refine ⟨a', ?_, g2, fun t t0 t1 => ?_⟩
    · simp (disch := first | omega | assumption) only [Option.bind_some, bn2_some, ii_lit, ii_neg, ii_add, ii_sub, ii_mul, ii_le, ii_lt, ii_eq, ii_ite, ii_or, ii_and, ii_bit, ii_rem, ii_div, b0_, b1_, b2_, b3_, true_and, and_true, u1_eq, u1_ne, u2_eq, u2_nk, u2_ni, uP_eq, uP_ne, gk1, gk2, gk3, gk4, gk10, gk11, gk12, gk13, gk14, gk15, gk17, gkr0, gkr7, gkr8, gkr9, gkr16, gkr18, gkr19, gkr5, gkr6, ok0, ok1, ok2, ok3, gl2_0, gl2_1, gl2_2, gl3_0, gl3_1, gl3_2, gm0, gm2, gm3, gm4, gm5, gm6, gm7, gm8, gm9, gm10, gm11, gm13, gm14, gm22, gm23, gm26, gm27, gm28, gm29, gm31, gm32, gm33, gm36, gm37, gm39, gm40, gm41, gm1, gm12, gm15, gm16, gm17, gm18, gm19, gm20, gm21, gm24, gm25, gm30, gm34, gm35, gm38, rk0, sk0, rk9, sk9, rk16, sk16, rk18, sk18, rk19, sk19, rm1, sm1, rm12, sm12, rm15, sm15, rm16, sm16, rm17, sm17, rm18, sm18, rm19, sm19, rm20, sm20, rm21, sm21, rm24, sm24, rm25, sm25, rm30, sm30, rm34, sm34, rm35, sm35, rm38, sm38, pk1, pk2, pk3, pk4, pk10, pk11, pk12, pk13, pk14, pk15, pk17, pkr5, pkr6, pm0, pm2, pm3, pm4, pm5, pm6, pm7, pm8, pm9, pm10, pm11, pm13, pz13_0, pz13_1, pm14, pz14_0, pz14_1, pm22, pm23, pm26, pm27, pm28, pm29, pm31, pm32, pm33, pm36, pm37, pm39, pm40, pm41, pl2_0, pl2_1, pl2_2, pl3_0, pl3_1, pl3_2, m_good, e23, h23, hin, g1]
      rw [if_neg (fun h => h hc)]
    · have g3 : a' 19 t = if 0 ≤ t ∧ t < 0 + 36 then a 21 (36 * i + (t - 0)) else a 19 t := g3 t
      unfold rw_
      rw [g3, if_pos (by omega), show 36 * i + (t - 0) = 36 * ((i.toNat : Nat) : Int) + t by omega]
