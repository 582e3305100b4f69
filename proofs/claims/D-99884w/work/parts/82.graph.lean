/-! PLAIN 27: a pier's cells, and what the queries read of them -/
set_option maxRecDepth 100000
def Gr (x : Nat) (m : fk_M) (ρ τ : Int → Int) (q lw hk : Int → Nat) (pa un l4 l5 l6 e4 e6 : Nat) : Prop :=
  (∃ V, m pa = some (true, oB 4 V) ∧ V 0 = tI (ii (ρ 0)) ∧ V 1 = tI (ii (ρ 1)) ∧ V 2 = tI (ii (ρ 3)) ∧ V 3 = tI (ii (ρ 5)) ∧ V 4 = tR (some l4) ∧ V 5 = tR (some l5) ∧ V 6 = tR (some l6) ∧ V 7 = tR (some un)) ∧
  (∃ V w c gl, m l4 = some (true, oB 14 V) ∧ V 1 = tR (some e4) ∧ V 2 = tI (ii (ρ 2)) ∧ m e4 = some (w, aQ c gl) ∧ ρ 2 ≤ (c : Int) ∧ ∀ p : Int, 0 ≤ p → p < ρ 2 → gl p.toNat = some (q p)) ∧
  (∃ V, m l5 = some (true, oB 14 V) ∧ V 2 = tI (ii (ρ 4))) ∧
  (∃ V w c gl, m l6 = some (true, oB 14 V) ∧ V 1 = tR (some e6) ∧ V 2 = tI (ii (ρ 6)) ∧ m e6 = some (w, aQ c gl) ∧ ρ 6 ≤ (c : Int) ∧ ∀ k : Int, 0 ≤ k → k < ρ 6 → gl k.toNat = some (hk k)) ∧
  (∃ g, m un = some (true, aN 0 4 g) ∧ ∀ k : Int, 0 ≤ k → k < ρ 5 → g k.toNat = ii (ρ (18 + 2 * k))) ∧
  (∀ p : Int, 0 ≤ p → p < ρ 2 → Ob x (q p) ∧ ∃ V, m (q p) = some (true, oB 6 V) ∧ V 1 = tR (some (lw p)) ∧ V 2 = tI (ii (τ p)) ∧ V 3 = tI (ii (τ (5 + p))) ∧ V 4 = tI (ii (ρ (13 + p)))) ∧
  (∀ k : Int, 0 ≤ k → k < ρ 5 → ∃ V, m (q (ρ (18 + 2 * k))) = some (true, oB 6 V) ∧ V 5 = tI (ii (ρ (18 + 2 * k + 1)))) ∧
  (∀ p : Int, 0 ≤ p → p < ρ 2 → Ob x (lw p) ∧ ∃ V, m (lw p) = some (true, oB (7 + (ρ (8 + p)).toNat) V) ∧ V 0 = tI (ii (ρ (8 + p)))) ∧
  (∀ k : Int, 0 ≤ k → k < ρ 6 → Ob x (hk k) ∧ ∃ V, m (hk k) = some (true, oB 12 V) ∧ V 0 = tI (ii (ρ (26 + 3 * k))) ∧ V 1 = tI (ii (ρ (26 + 3 * k + 1))) ∧ V 2 = tI (ii (ρ (26 + 3 * k + 2)))) ∧
  Ob x pa ∧ Ob x un ∧ Ob x l4 ∧ Ob x l5 ∧ Ob x l6 ∧ Ob x e4 ∧ Ob x e6
/-- cells that no act writes -/
def kd (c : fk_C) : Prop := match c with
  | Sum.inl (t, _, _) => t = 0
  | Sum.inr (Sum.inl _) => False
  | Sum.inr (Sum.inr (Sum.inl _)) => False
  | Sum.inr (Sum.inr (Sum.inr (ci, _))) => ci ≠ 13
theorem Gr.kp {x : Nat} {m m' : fk_M} {ρ τ σ : Int → Int} {q lw hk : Int → Nat} {pa un l4 l5 l6 e4 e6 : Nat} (h : Gr x m ρ τ q lw hk pa un l4 l5 l6 e4 e6) (hR : Rg ρ τ σ) (hkp : ∀ a w c, Ob x a → m a = some (w, c) → kd c → m' a = some (w, c)) (h4 : m' e4 = m e4) (h6 : m' e6 = m e6) : Gr x m' ρ τ q lw hk pa un l4 l5 l6 e4 e6 := by
  obtain ⟨⟨V, v1, v2⟩, ⟨V4, w4, c4', g4, a1, a2, a3, a4, a5⟩, ⟨V5, b1, b2⟩, ⟨V6, w6, c6, g6, d1, d2, d3, d4, d5⟩, ⟨g, u1', u2'⟩, hq, hu, hl, hh, hO⟩ := h
  have hO' := hO
  obtain ⟨o1, o2, o3, o4, o5, o6, o7⟩ := hO'
  refine ⟨⟨V, hkp _ _ _ o1 v1 (by unfold kd; omega), v2⟩, ⟨V4, w4, c4', g4, hkp _ _ _ o3 a1 (by unfold kd; omega), a2, a3, h4.trans a4, a5⟩, ⟨V5, hkp _ _ _ o4 b1 (by unfold kd; omega), b2⟩, ⟨V6, w6, c6, g6, hkp _ _ _ o5 d1 (by unfold kd; omega), d2, d3, h6.trans d4, d5⟩, ⟨g, hkp _ _ _ o2 u1' (by unfold kd; rfl), u2'⟩, fun p p0 p1 => ?_, fun k k0 k1 => ?_, fun p p0 p1 => ?_, fun k k0 k1 => ?_, hO⟩
  · obtain ⟨o, V, e1, e2⟩ := hq p p0 p1
    exact ⟨o, V, hkp _ _ _ o e1 (by unfold kd; omega), e2⟩
  · obtain ⟨V, e1, e2⟩ := hu k k0 k1
    have hk2 := (hR.2.2.2.2.2.2.2.2.2.1 k k0 k1).1
    exact ⟨V, hkp _ _ _ (hq _ hk2.1 hk2.2).1 e1 (by unfold kd; omega), e2⟩
  · obtain ⟨o, V, e1, e2⟩ := hl p p0 p1
    have := hR.pr p0 p1
    exact ⟨o, V, hkp _ _ _ o e1 (by unfold kd; omega), e2⟩
  · obtain ⟨o, V, e1, e2⟩ := hh k k0 k1
    exact ⟨o, V, hkp _ _ _ o e1 (by unfold kd; omega), e2⟩
theorem list_sz {m : fk_M} {la : Nat} {V : Nat → fk_T} {s : Int} (h : m la = some (true, oB 14 V)) (h2 : V 2 = tI (ii s)) : f_J2_size (some la) m = some (ii s) := by
  unfold f_J2_size
  rw [gI_of h h2, Option.bind_some]
theorem list_get {m : fk_M} {la ea cap : Nat} {V : Nat → fk_T} {w : Bool} {gl : Nat → Option Nat} {s i : Int} (h : m la = some (true, oB 14 V)) (h1 : V 1 = tR (some ea)) (h2 : V 2 = tI (ii s)) (he : m ea = some (w, aQ cap gl)) (i0 : 0 ≤ i) (i1 : i < s) (hs : s ≤ (cap : Int)) (h3 : s ≤ 1000) : f_J2_get (some la) (ii i) m = some (gl i.toNat) := by
  unfold f_J2_get f_J2_elementData
  rw [gI_of h h2, Option.bind_some, chk _ i0 i1 (by omega), Option.bind_some, isO_of h, Option.bind_some, gR_of h h1, Option.bind_some, aR_of he i0 (by omega) (by omega), Option.bind_some, Option.bind_some]
theorem isO_no {m : fk_M} {q ci cj : Nat} {w : Bool} {V : Nat → fk_T} (h : m q = some (w, oB ci V)) (hne : ci ≠ cj) : ¬ isO m (some q) cj = some () := by
  unfold isO fk_o
  simp only [h, if_neg hne]
  intro h
  cases h
theorem gNum_of {m : fk_M} {q : Nat} {law : Int} {V : Nat → fk_T} (h0 : 0 ≤ law) (h1 : law ≤ 3) (h : m q = some (true, oB (7 + law.toNat) V)) (hv : V 0 = tI (ii law)) : gNum m (some q) = some (ii law) := by
  have : law = 0 ∨ law = 1 ∨ law = 2 ∨ law = 3 := by omega
  unfold gNum
  rcases this with rfl | rfl | rfl | rfl
  · have h : m q = some (true, oB 7 V) := h
    rw [if_pos (isO_of h)]
    exact gI_of h hv
  · have h : m q = some (true, oB 8 V) := h
    rw [if_neg (isO_no h (by decide)), if_pos (isO_of h)]
    exact gI_of h hv
  · have h : m q = some (true, oB 9 V) := h
    rw [if_neg (isO_no h (by decide)), if_neg (isO_no h (by decide)), if_pos (isO_of h)]
    exact gI_of h hv
  · have h : m q = some (true, oB 10 V) := h
    rw [if_neg (isO_no h (by decide)), if_neg (isO_no h (by decide)), if_neg (isO_no h (by decide)), if_pos (isO_of h)]
    exact gI_of h hv
theorem wi_mm {W v : Int} (hW : 0 ≤ W) : max 0 (min W v) = wi W v := by
  unfold wi
  split
  · omega
  · split <;> omega
theorem next_of {m : fk_M} {q : Nat} {law s t W : Int} {V : Nat → fk_T} (h0 : 0 ≤ law) (h1 : law ≤ 3) (h : m q = some (true, oB (7 + law.toNat) V)) (s0 : 0 ≤ s) (s1 : s ≤ W) (t0 : 0 ≤ t) (t1 : t ≤ 20) (W1 : W ≤ 99) : f_V_next (some q) (ii s) (ii t) (ii W) m = some (ii (wi W (lawv law s t W))) := by
  have hx : f_X8_next (some q) (ii s) (ii t) (ii W) m = some (ii (wi W (lawv law s t W))) := by
    have hth : f_V_then (some q) (ii s) (ii t) (ii W) m = some (ii (lawv law s t W)) := by
      have : law = 0 ∨ law = 1 ∨ law = 2 ∨ law = 3 := by omega
      unfold f_V_then lawv
      rcases this with rfl | rfl | rfl | rfl
      · have h : m q = some (true, oB 7 V) := h
        rw [if_pos (isO_of h)]
        unfold f_X9_then
        rw [ii_add, if_pos rfl]
      · have h : m q = some (true, oB 8 V) := h
        rw [if_neg (isO_no h (by decide)), if_pos (isO_of h)]
        unfold f_X10_then f_X9_then
        rw [show isO m (some q) 8 = some () from isO_of h, Option.bind_some, Option.bind_some, show (2 : Int32) = ii 2 from rfl, ii_mul, ii_add]
        rfl
      · have h : m q = some (true, oB 9 V) := h
        rw [if_neg (isO_no h (by decide)), if_neg (isO_no h (by decide)), if_pos (isO_of h)]
        unfold f_X11_then f_X9_then
        rw [show isO m (some q) 9 = some () from isO_of h, Option.bind_some, Option.bind_some, ii_neg, ii_add]
        rfl
      · have h : m q = some (true, oB 10 V) := h
        rw [if_neg (isO_no h (by decide)), if_neg (isO_no h (by decide)), if_neg (isO_no h (by decide)), if_pos (isO_of h)]
        unfold f_X12_then f_X9_then
        rw [show isO m (some q) 10 = some () from isO_of h, Option.bind_some, Option.bind_some, ii_sub, ii_add]
        rfl
    have hl := lawv_rg (law := law) (fig := s) (step := t) (W := W) s0 s1 W1 t0 t1
    unfold f_X8_next
    rw [hth, Option.bind_some, ii_min (by omega) (by omega), show (0 : Int32) = ii 0 from rfl, ii_max (by omega) (by omega), wi_mm (by omega)]
  have : law = 0 ∨ law = 1 ∨ law = 2 ∨ law = 3 := by omega
  unfold f_V_next
  rcases this with rfl | rfl | rfl | rfl
  · have h : m q = some (true, oB 7 V) := h
    rw [if_pos (isO_of h)]
    exact hx
  · have h : m q = some (true, oB 8 V) := h
    rw [if_neg (isO_no h (by decide)), if_pos (isO_of h)]
    exact hx
  · have h : m q = some (true, oB 9 V) := h
    rw [if_neg (isO_no h (by decide)), if_neg (isO_no h (by decide)), if_pos (isO_of h)]
    exact hx
  · have h : m q = some (true, oB 10 V) := h
    rw [if_neg (isO_no h (by decide)), if_neg (isO_no h (by decide)), if_neg (isO_no h (by decide)), if_pos (isO_of h)]
    exact hx
theorem cst_of {m : fk_M} {a ci : Nat} {w : Bool} {V : Nat → fk_T} (h : m a = some (w, oB ci V)) : cst m (some a) ci = some () := isO_of h
theorem Api.of {x : Nat} {P : Nat → Option Nat} {b : fk_M} {ρ τ σ : Int → Int} {q lw hk : Int → Nat} {pa sg un l4 l5 l6 e4 e6 : Nat} (hR : Rg ρ τ σ) (hP5 : P 5 = some pa) (hP6 : P 6 = some sg) (hG : Gr x b ρ τ q lw hk pa un l4 l5 l6 e4 e6) (hS : Sg b pa sg σ) (hs : x + 24 ≤ sg) : Api x P b ρ τ σ q lw hk pa sg un l5 l6 (sg + 1) (sg + 2) (sg + 3) := by
  obtain ⟨⟨V, v1, v2, v3, v4, v5, v6, v7, v8, v9⟩, ⟨V4, w4, c4', g4, a1, a2, a3, a4, a5, a6⟩, ⟨V5, b1, b2⟩, ⟨V6, w6, c6, g6, d1, d2, d3, d4, d5, d6⟩, ⟨g, u1', u2'⟩, hq, hu, hl, hh, o1, o2, o3, o4, o5, o6, o7⟩ := hG
  obtain ⟨⟨W, h1, h2, h3, h4, h5, h6⟩, ⟨g1, i1, j1⟩, ⟨g2, i2, j2⟩, ⟨g3, i3, j3⟩⟩ := hS
  have hw := hR.wd
  have hn6 := hR.2.2.2.2.2.2.1
  have hn5 := hR.2.2.2.2.2.1
  have O : ∀ {z : Nat} {e : Bool × fk_C}, Ob x z → b z = some e → ∀ (F : Nat → Int) (A : Nat → Int → Int) (f l : Nat → Int) (a : Nat → Int → Int), hp x F P A f l a b z = some e := fun ho hz F A f l a => (hp_out _ _ _ _ _ _ _ _ ho).trans hz
  have s0 : Ob x sg := Or.inr hs
  have s1 : Ob x (sg + 1) := Or.inr (by omega)
  have s2 : Ob x (sg + 2) := Or.inr (by omega)
  have s3 : Ob x (sg + 3) := Or.inr (by omega)
  refine ⟨hP5, hP6, ?_, ?_, ?_, ?_, ?_, ?_, ?_, ?_, ?_, ?_, ?_, ?_, ?_, ?_, ?_, ?_, ?_, ?_, ?_, ?_, ?_, ?_, ?_, ?_, ?_, ?_, ?_, ?_, ?_, ?_, ?_⟩
  · intro F A f l a
    unfold f_X1_pairs
    rw [gkr5, Option.bind_some, hP5, gR_of (O o1 v1 ..) v6, Option.bind_some, isO_of (O o3 a1 ..), Option.bind_some, list_sz (O o3 a1 ..) a3, Option.bind_some]
  · intro F A f l a p p0 p1
    obtain ⟨oq, Vq, e1, -⟩ := hq p p0 p1
    unfold f_X1_at
    rw [gkr5, Option.bind_some, hP5, gR_of (O o1 v1 ..) v6, Option.bind_some, isO_of (O o3 a1 ..), Option.bind_some, list_get (O o3 a1 ..) a2 a3 (O o6 a4 ..) p0 p1 a5 (by omega), Option.bind_some, a6 p p0 p1, cst_of (O oq e1 ..), Option.bind_some]
  · intro F A f l a p p0 p1
    obtain ⟨oq, Vq, e1, e2, e3, e4, e5⟩ := hq p p0 p1
    exact gI_of (O oq e1 ..) e5
  · intro F A f l a p p0 p1
    obtain ⟨oq, Vq, e1, e2, e3, e4, e5⟩ := hq p p0 p1
    exact gI_of (O oq e1 ..) e3
  · intro F A f l a p p0 p1
    obtain ⟨oq, Vq, e1, e2, e3, e4, e5⟩ := hq p p0 p1
    exact gI_of (O oq e1 ..) e4
  · intro F A f l a k k0 k1
    obtain ⟨Vq, e1, e2⟩ := hu k k0 k1
    have hk2 := (hR.2.2.2.2.2.2.2.2.2.1 k k0 k1).1
    exact gI_of (O (hq _ hk2.1 hk2.2).1 e1 ..) e2
  · intro F A f l a p p0 p1
    obtain ⟨oq, Vq, e1, e2, e3, e4, e5⟩ := hq p p0 p1
    exact gR_of (O oq e1 ..) e2
  · intro F A f l a p p0 p1
    obtain ⟨oq, Vq, e1, e2⟩ := hl p p0 p1
    have hp' := hR.pr p0 p1
    exact gNum_of (by omega) (by omega) (O oq e1 ..) e2
  · intro F A f l a p s t p0 p1 s0 s1 t0 t1
    obtain ⟨oq, Vq, e1, e2⟩ := hl p p0 p1
    have hp' := hR.pr p0 p1
    exact next_of (by omega) (by omega) (O oq e1 ..) s0 s1 t0 t1 (by omega)
  · exact fun F A f l a => gI_of (O o1 v1 ..) v2
  · exact fun F A f l a => gI_of (O o1 v1 ..) v3
  · exact fun F A f l a => gI_of (O o1 v1 ..) v4
  · exact fun F A f l a => gI_of (O o1 v1 ..) v5
  · exact fun F A f l a => gR_of (O o1 v1 ..) v7
  · exact fun F A f l a => gR_of (O o1 v1 ..) v8
  · exact fun F A f l a => gR_of (O o1 v1 ..) v9
  · exact fun F A f l a => isO_of (O o4 b1 ..)
  · exact fun F A f l a => list_sz (O o4 b1 ..) b2
  · exact fun F A f l a => isO_of (O o5 d1 ..)
  · exact fun F A f l a => list_sz (O o5 d1 ..) d3
  · intro F A f l a k k0 k1
    rw [list_get (O o5 d1 ..) d2 d3 (O o7 d4 ..) k0 k1 d5 (by omega), d6 k k0 k1]
  · intro F A f l a k k0 k1
    obtain ⟨oq, Vq, e1, e2, e3, e4⟩ := hh k k0 k1
    exact ⟨cst_of (O oq e1 ..), gI_of (O oq e1 ..) e2, gI_of (O oq e1 ..) e3, gI_of (O oq e1 ..) e4⟩
  · intro F A f l a k k0 k1
    rw [aI_of (O o2 u1' ..) k0 (by omega) (by omega), u2' k k0 k1]
  · exact fun F A f l a => gR_of (O s0 h1 ..) h3
  · exact fun F A f l a => gR_of (O s0 h1 ..) h4
  · exact fun F A f l a => gR_of (O s0 h1 ..) h5
  · exact fun F A f l a => gI_of (O s0 h1 ..) h6
  · intro F A f l a p p0 p1
    rw [aI_of (O s1 i1 ..) p0 (by omega) (by omega), j1 p.toNat (by omega), Int.toNat_of_nonneg p0]
  · intro F A f l a p p0 p1
    rw [aI_of (O s2 i2 ..) p0 (by omega) (by omega), j2 p.toNat (by omega), Int.toNat_of_nonneg p0]
  · intro F A f l a k k0 k1
    rw [aI_of (O s3 i3 ..) k0 (by omega) (by omega), j3 k.toNat (by omega), Int.toNat_of_nonneg k0]
  · exact fun F A f l a => gR_of (O s0 h1 ..) h2
