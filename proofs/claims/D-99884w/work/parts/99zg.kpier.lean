/-! PLAIN 76: a pier is read: what is kept, what is new -/
set_option maxRecDepth 100000
/-- behind a heap's block: hashes alone change -/
def Lb (x n : Nat) (b b' : fk_M) : Prop := ∀ q, q < n → Ob x q → b' q = b q ∨ ∃ V V', b q = some (true, oB 16 V) ∧ b' q = some (true, oB 16 V')
theorem Lb.c {x n : Nat} {b b' : fk_M} (h : Lb x n b b') (hf : ∀ q, n ≤ q → b q = none) {q : Nat} {w : Bool} {c : fk_C} (ho : Ob x q) (hq : b q = some (w, c)) (hc : tg c ≠ 16) : b' q = some (w, c) := by
  have hn : q < n := by
    by_cases hh : q < n
    · exact hh
    · rw [hf q (by omega)] at hq
      cases hq
  rcases h q hn ho with h1 | ⟨V, V', h1, -⟩
  · exact h1.trans hq
  · rw [hq] at h1
    cases h1
    exact absurd rfl hc
theorem Gr.lb {x : Nat} {m m' : fk_M} {ρ τ σ : Int → Int} {q lw hk : Int → Nat} {pa un l4 l5 l6 e4 e6 : Nat} (h : Gr x m ρ τ q lw hk pa un l4 l5 l6 e4 e6) (hR : Rg ρ τ σ) (hkp : ∀ a w c, Ob x a → m a = some (w, c) → tg c ≠ 16 → tg c ≠ 200 → m' a = some (w, c)) : Gr x m' ρ τ q lw hk pa un l4 l5 l6 e4 e6 := by
  obtain ⟨⟨V, v1, v2⟩, ⟨V4, w4, c4', g4, a1, a2, a3, a4, a5⟩, ⟨V5, b1, b2⟩, ⟨V6, w6, c6, g6, d1, d2, d3, d4, d5⟩, ⟨g, u1', u2'⟩, hq, hu, hl, hh, hO⟩ := h
  have hO' := hO
  obtain ⟨o1, o2, o3, o4, o5, o6, o7⟩ := hO'
  refine ⟨⟨V, hkp _ _ _ o1 v1 (show (4 : Nat) ≠ 16 by decide) (show (4 : Nat) ≠ 200 by decide), v2⟩, ⟨V4, w4, c4', g4, hkp _ _ _ o3 a1 (show (14 : Nat) ≠ 16 by decide) (show (14 : Nat) ≠ 200 by decide), a2, a3, hkp _ _ _ o6 a4 (show (300 : Nat) ≠ 16 by decide) (show (300 : Nat) ≠ 200 by decide), a5⟩, ⟨V5, hkp _ _ _ o4 b1 (show (14 : Nat) ≠ 16 by decide) (show (14 : Nat) ≠ 200 by decide), b2⟩, ⟨V6, w6, c6, g6, hkp _ _ _ o5 d1 (show (14 : Nat) ≠ 16 by decide) (show (14 : Nat) ≠ 200 by decide), d2, d3, hkp _ _ _ o7 d4 (show (300 : Nat) ≠ 16 by decide) (show (300 : Nat) ≠ 200 by decide), d5⟩, ⟨g, hkp _ _ _ o2 u1' (show (100 : Nat) ≠ 16 by decide) (show (100 : Nat) ≠ 200 by decide), u2'⟩, fun p p0 p1 => ?_, fun k k0 k1 => ?_, fun p p0 p1 => ?_, fun k k0 k1 => ?_, hO⟩
  · obtain ⟨o, V, e1, e2⟩ := hq p p0 p1
    exact ⟨o, V, hkp _ _ _ o e1 (show (6 : Nat) ≠ 16 by decide) (show (6 : Nat) ≠ 200 by decide), e2⟩
  · obtain ⟨V, e1, e2⟩ := hu k k0 k1
    have hk2 := (hR.2.2.2.2.2.2.2.2.2.1 k k0 k1).1
    exact ⟨V, hkp _ _ _ (hq _ hk2.1 hk2.2).1 e1 (show (6 : Nat) ≠ 16 by decide) (show (6 : Nat) ≠ 200 by decide), e2⟩
  · obtain ⟨o, V, e1, e2⟩ := hl p p0 p1
    have := hR.pr p0 p1
    exact ⟨o, V, hkp _ _ _ o e1 (show 7 + (ρ (8 + p)).toNat ≠ 16 by omega) (show 7 + (ρ (8 + p)).toNat ≠ 200 by omega), e2⟩
  · obtain ⟨o, V, e1, e2⟩ := hh k k0 k1
    exact ⟨o, V, hkp _ _ _ o e1 (show (12 : Nat) ≠ 16 by decide) (show (12 : Nat) ≠ 200 by decide), e2⟩
theorem Sg.lb {x : Nat} {b b' : fk_M} {pa s : Nat} {R : Int → Int} (h : Sg b pa s R) (hs : x + 24 ≤ s) (hkp : ∀ a w c, Ob x a → b a = some (w, c) → tg c ≠ 16 → tg c ≠ 200 → b' a = some (w, c)) : Sg b' pa s R := by
  refine h.cg (fun q q1 q2 => ?_) (fun _ _ _ => rfl)
  obtain ⟨⟨V, h1, -⟩, ⟨g1, i1, -⟩, ⟨g2, i2, -⟩, ⟨g3, i3, -⟩⟩ := h
  have : q = s ∨ q = s + 1 ∨ q = s + 2 ∨ q = s + 3 := by omega
  rcases this with rfl | rfl | rfl | rfl
  · exact (hkp _ _ _ (Or.inr (by omega)) h1 (show (13 : Nat) ≠ 16 by decide) (show (13 : Nat) ≠ 200 by decide)).trans h1.symm
  · exact (hkp _ _ _ (Or.inr (by omega)) i1 (show (101 : Nat) ≠ 16 by decide) (show (101 : Nat) ≠ 200 by decide)).trans i1.symm
  · exact (hkp _ _ _ (Or.inr (by omega)) i2 (show (101 : Nat) ≠ 16 by decide) (show (101 : Nat) ≠ 200 by decide)).trans i2.symm
  · exact (hkp _ _ _ (Or.inr (by omega)) i3 (show (102 : Nat) ≠ 16 by decide) (show (102 : Nat) ≠ 200 by decide)).trans i3.symm
theorem KI.lb {x n n' : Nat} {g : Nat → Nat} {F : Nat → Int} {P : Nat → Option Nat} {b b' : fk_M} {h : Int} {ρ τ σ U : Int → Int} {u : Nat} {K : Int → Int} {k : Nat} (hK : KI x n g F P b h ρ τ σ U u K k) (hkp : ∀ a w c, Ob x a → b a = some (w, c) → tg c ≠ 16 → tg c ≠ 200 → b' a = some (w, c)) (hf' : ∀ q, n' ≤ q → b' q = none) (hn : n ≤ n') : KI x n' g F P b' h ρ τ σ U u K k := by
  obtain ⟨⟨hf, hx, hg, hu, hk, h101, h111⟩, ep, cp, gp, ei, ci, gi, p100, p110, hLp, hLi, hne, hh⟩ := hK
  obtain ⟨hepn, wp, hepb⟩ := hLp.lt hf
  obtain ⟨hein, wi', heib⟩ := hLi.lt hf
  have oep := Ob.of_lk hLp hg
  have oei := Ob.of_lk hLi hg
  refine ⟨⟨hf', by omega, hg, hu, hk, h101, h111⟩, ep, cp, gp, ei, ci, gi, p100, p110, hLp.cg ((hkp _ _ _ oep hepb (show (300 : Nat) ≠ 16 by decide) (show (300 : Nat) ≠ 200 by decide)).trans hepb.symm), hLi.cg ((hkp _ _ _ oei heib (show (300 : Nat) ≠ 16 by decide) (show (300 : Nat) ≠ 200 by decide)).trans heib.symm), hne, ?_⟩
  rcases hh with hh | ⟨e1, hR, q, lw, hk', pa, sg, un, l4, l5, l6, e4, e6, ps, im, p5, p6, hG, hp4, hi4, ⟨hS, hsx⟩, hps, him, hdp, hdi⟩
  · exact Or.inl hh
  · refine Or.inr ⟨e1, hR, q, lw, hk', pa, sg, un, l4, l5, l6, e4, e6, ps, im, p5, p6, hG.lb hR hkp, hp4, hi4, ⟨hS.lb hsx hkp, hsx⟩, fun i hi => ?_, fun i hi => ?_, hdp, hdi⟩
    · obtain ⟨z1, z2, z3, z4, z5⟩ := hps i hi
      exact ⟨z1, z2.lb z4 hkp, z3, z4, z5⟩
    · obtain ⟨z1, z2, z3, z4, z5⟩ := him i hi
      exact ⟨z1, z2.lb z4 hkp, z3, z4, z5⟩
/-! a good end has a pier and a pair -/
theorem aEnd_ok {s s' : Ls} (h : aEnd s = .ok s') : s'.2.1 7 ≠ 0 ∧ s'.2.1 2 ≠ 0 := by
  unfold aEnd at h
  split at h
  · split at h
    · cases h
    · rename_i hno
      cases h
      exact ⟨fun e => hno (Or.inl e), fun e => hno (Or.inr e)⟩
  · cases h
theorem aLoop_ok {T : Int → Int} {n : Int} : ∀ (d : Nat) (s s' : Ls), aLoop T n d s = .ok s' → s'.2.1 7 ≠ 0 ∧ s'.2.1 2 ≠ 0 := by
  intro d
  induction d with
  | zero =>
    intro s s' h
    cases h
  | succ d ih =>
    intro s s' h
    have h : (if s.1.1 = 4 then (aLine T n (aOn T n s.1, s.2)).bind (aLoop T n d) else aEnd s) = .ok s' := h
    split at h
    · obtain ⟨u, -, h2⟩ := ex_bind h
      exact ih u s' h2
    · exact aEnd_ok h
theorem aAll_ok {T : Int → Int} {n : Int} {φ ψ : Int → Int} {s' : Ls} (h : aAll T n φ ψ = .ok s') : s'.2.1 7 ≠ 0 ∧ s'.2.1 2 ≠ 0 := by
  obtain ⟨u, -, h2⟩ := ex_bind h
  exact aLoop_ok _ _ _ h2
/-! what is told, as the queries read it -/
theorem Gr.of {g : Nat → Nat} {m : fk_M} {r x : Nat} {φ ψ : Int → Int} (h : PR g m r φ ψ) (hF : FI φ ψ) (h7 : φ 7 ≠ 0) (h2 : φ 2 ≠ 0) (hr : x + 24 ≤ r) (hg : g 40 < x) : ∃ q lw hk e4 e6, Gr x m φ ψ q lw hk (r + 2) (r + 6) (r + 3) (r + 4) (r + 5) e4 e6 ∧ r ≤ e4 ∧ (e6 = g 40 ∨ r ≤ e6) := by
  obtain ⟨q, lw, hk, dk, du, dv, e4, e5, e6, g4, g5, g6, a0, ⟨V, v1, v2, v3, v4, v5, v6, v7, v8, v9⟩, ⟨⟨⟨U4, c4', w1, w2, w3, w4⟩, wd⟩, ⟨⟨U5, c5, x1, x2, x3, x4⟩, -⟩, ⟨⟨U6, c6, y1, y2, y3, y4⟩, yd⟩⟩, a5, ⟨gv, z1, z2⟩, a7, a8, a9, -⟩ := h
  have r2 := hF.2.2.2.1
  have r5 := hF.2.2.2.2.2.2.1
  have r6 := hF.2.2.2.2.2.2.2.1
  have r12 := hF.2.2.2.2.2.2.2.2.2.2.2.1
  have hR := hF.rg h7 h2
  obtain ⟨s1, s2, s3, s4⟩ : 1 ≤ φ 2 ∧ φ 2 ≤ 10 ∧ r ≤ e4 ∧ m e4 = some (true, aQ 10 g4) := by
    rcases wd with ⟨s1, -⟩ | hh
    · exact absurd s1 h2
    · exact hh
  obtain ⟨t1, w6, cc, t2, t3⟩ : (e6 = g 40 ∨ r ≤ e6) ∧ ∃ (w : Bool) (c : Nat), m e6 = some (w, aQ c g6) ∧ φ 6 ≤ (c : Int) := by
    rcases yd with ⟨t1, t2, w, t3⟩ | ⟨t1, t2, t3, t4⟩
    · exact ⟨Or.inl t2, w, 0, t3, by omega⟩
    · exact ⟨Or.inr t3, true, 10, t4, by omega⟩
  refine ⟨q, lw, hk, e4, e6, ⟨⟨V, v1, ?_, v3, v4, v5, v6, v7, v8, v9⟩, ⟨U4, true, 10, g4, w1, w3, w4, s4, by omega, fun p p0 p1 => (a7 p p0 p1).1⟩, ⟨U5, x1, x4⟩, ⟨U6, w6, cc, g6, y1, y3, y4, t2, t3, fun k k0 k1 => (a9 k k0 k1).1⟩, ⟨gv, z1, z2⟩, fun p p0 p1 => ?_, fun k k0 k1 => ?_, fun p p0 p1 => ?_, fun k k0 k1 => ?_, Or.inr (by omega), Or.inr (by omega), Or.inr (by omega), Or.inr (by omega), Or.inr (by omega), Or.inr (by omega), ?_⟩, s3, t1⟩
  · rw [v2, if_neg h7]
  · obtain ⟨-, ⟨b0, W, s, wd', b1, b2, b3, b4, b5, b6, b7, b8, -⟩, -⟩ := a7 p p0 p1
    exact ⟨Or.inr (by omega), W, b1, b5, b6, b7, b8⟩
  · have hk2 := (r12 k k0 k1).1
    obtain ⟨-, ⟨b0, W, s, wd', b1, b2, b3, b4, b5, b6, b7, b8, b9, b10⟩, -⟩ := a7 _ hk2.1 hk2.2
    exact ⟨W, b1, b10 k k0 k1 rfl⟩
  · obtain ⟨-, -, b0, L, b1, b2⟩ := a7 p p0 p1
    exact ⟨Or.inr (by omega), L, b1, b2⟩
  · obtain ⟨-, b0, D, b1, b2, b3, b4⟩ := a9 k k0 k1
    exact ⟨Or.inr (by omega), D, b1, b2, b3, b4⟩
  · rcases t1 with h | h
    · exact Or.inl (by omega)
    · exact Or.inr (by omega)
theorem Kt.new1 {m m' : fk_M} {r x : Nat} {w : Bool} {V : Nat → fk_T} (h : ∀ q, q < r → q ≠ x → m' q = m q) (hf : ∀ q, r ≤ q → m q = none) (hx : m x = some (w, oB 0 V)) : Kt (fun i => i = 0) m m' := by
  have hl : ∀ {q : Nat} {e : Bool × fk_C}, m q = some e → q < r := fun {q e} hq => by
    by_cases hc : q < r
    · exact hc
    · rw [hf q (by omega)] at hq
      cases hq
  refine ⟨fun q w' c hq hn => (h q (hl hq) (fun e => ?_)).trans hq, fun q w' hs => hs.cg2 (fun q' hq' => ?_)⟩
  · rw [e, hx] at hq
    cases hq
    exact hn rfl
  · rcases hq' with ⟨wr, V', hh⟩ | ⟨wr, L, gg, hh⟩
    · exact h q' (hl hh) (fun e => by rw [e, hx] at hh; cases hh)
    · exact h q' (hl hh) (fun e => by rw [e, hx] at hh; cases hh)
/-- what a stage takes over, in any heap that has these cells -/
theorem PR.ext {g : Nat → Nat} {m : fk_M} {r x sg : Nat} {w0 : Bool} {V0 : Nat → fk_T} {φ ψ : Int → Int} (h : PR g m r φ ψ) (hf : ∀ z, sg ≤ z → m z = none) (hx : m x = some (w0, oB 0 V0)) : ∃ (q dk : Int → Nat) (du dv : Int → Int), (∀ k, 0 ≤ k → k < φ 4 → (0 ≤ du k ∧ du k < φ 2) ∧ (0 ≤ dv k ∧ dv k < φ 2)) ∧ (∀ p p', 0 ≤ p → p < 5 → 0 ≤ p' → p' < 5 → 0 < ψ (10 + 5 * p + p') → ∃ k, 0 ≤ k ∧ k < φ 4 ∧ du k = p ∧ dv k = p') ∧ ∀ m', (∀ z, z < sg → z ≠ x → m' z = m z) → (gR m' (some (r + 2)) 4 4 = some (some (r + 3)) ∧ gR m' (some (r + 2)) 4 5 = some (some (r + 4)) ∧ isO m' (some (r + 3)) 14 = some () ∧ isO m' (some (r + 4)) 14 = some () ∧ f_J2_size (some (r + 3)) m' = some (ii (φ 2)) ∧ f_J2_size (some (r + 4)) m' = some (ii (φ 4))) ∧ (∀ p, 0 ≤ p → p < φ 2 → f_J2_get (some (r + 3)) (ii p) m' = some (some (q p)) ∧ cst m' (some (q p)) 6 = some () ∧ gI m' (some (q p)) 6 2 = some (ii (ψ p)) ∧ gI m' (some (q p)) 6 3 = some (ii (ψ (5 + p)))) ∧ ∀ k, 0 ≤ k → k < φ 4 → f_J2_get (some (r + 4)) (ii k) m' = some (some (dk k)) ∧ cst m' (some (dk k)) 11 = some () ∧ gI m' (some (dk k)) 11 0 = some (ii (du k)) ∧ gI m' (some (dk k)) 11 1 = some (ii (dv k)) ∧ gI m' (some (dk k)) 11 2 = some (ii (ψ (10 + 5 * du k + dv k))) := by
  obtain ⟨q, lw, hk, dk, du, dv, e4, e5, e6, g4, g5, g6, a0, a1, ⟨a2, a3, -⟩, a5, a6, a7, a8, a9, a10, a11⟩ := h
  refine ⟨q, dk, du, dv, fun k k0 k1 => ⟨(a10 k k0 k1).2.2.1, (a10 k k0 k1).2.2.2.1⟩, a11, fun m' hm => ?_⟩
  have kt : Kt (fun i => i = 0) m m' := Kt.new1 hm hf hx
  obtain ⟨V, v1, v2, v3, v4, v5, v6, v7, -⟩ := a1.kt kt (by decide)
  have b2 := a2.kt kt (by decide) (by decide)
  have b3 := a3.kt kt (by decide) (by decide)
  refine ⟨⟨gR_of v1 v6, gR_of v1 v7, b2.sz.1, b3.sz.1, b2.sz.2, b3.sz.2⟩, fun p p0 p1 => ?_, fun k k0 k1 => ?_⟩
  · obtain ⟨c1, ⟨-, W, s, wd, w1, w2, w3, w4, w5, w6, w7, -⟩, -⟩ := a7 p p0 p1
    have w1' := kt.o w1 (by decide)
    exact ⟨by rw [b2.get p0 p1, c1], cst_of w1', gI_of w1' w6, gI_of w1' w7⟩
  · obtain ⟨c1, ⟨D, d1, d2, d3, d4⟩, -⟩ := a10 k k0 k1
    have d1' := kt.o d1 (by decide)
    exact ⟨by rw [b3.get k0 k1, c1], cst_of d1', gI_of d1' d2, gI_of d1' d3, gI_of d1' d4⟩
