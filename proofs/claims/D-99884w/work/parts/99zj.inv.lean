/-! PLAIN 79: both sides, as they stand between two calls -/
set_option maxRecDepth 100000
def IV (x n : Nat) (g : Nat → Nat) (b0 : fk_M) (F : Nat → Int) (P : Nat → Option Nat) (A : Nat → Int → Int) (f : Nat → Int) (a : Nat → Int → Int) (b : fk_M) (u k : Nat) : Prop := KI x n g F P b (f 14) (a 15) (a 17) (a 19) (a 20) u (a 21) k ∧ (f 22 = u ∧ f 23 = k) ∧ (0 ≤ F 1 ∧ F 1 ≤ 900 ∧ f 2 = F 1) ∧ (F 2 = f 9 ∧ F 4 = f 11 ∧ (F 3 = if f 11 = 4 then f 10 else -1) ∧ 0 ≤ f 11 ∧ f 11 ≤ 6) ∧ (∀ t, 0 ≤ t → t < F 1 → A 0 t = s8 (a 1 t) ∧ 0 ≤ a 1 t ∧ a 1 t ≤ 255) ∧ (∀ q, q < x → b q = b0 q) ∧ ∃ j, b (x + 24) = some (true, aJ 1 j)
def Inv (x n : Nat) (g : Nat → Nat) (b0 m : fk_M) : Prop := ∃ F P A f l a b u k, m = hp x F P A f l a b ∧ IV x n g b0 F P A f a b u k
/-- the low cells are those from the start -/
abbrev Low (x : Nat) (b0 m : fk_M) : Prop := ∀ q, q < x → m q = b0 q
theorem Low.hp {x : Nat} {b0 b : fk_M} (h : Low x b0 b) (F : Nat → Int) (P : Nat → Option Nat) (A : Nat → Int → Int) (f l : Nat → Int) (a : Nat → Int → Int) : Low x b0 (hp x F P A f l a b) := fun q hq => (hp_out _ _ _ _ _ _ _ _ (Or.inl hq)).trans (h q hq)
section IVS
variable {x n : Nat} {g : Nat → Nat} {b0 : fk_M} {F : Nat → Int} {P : Nat → Option Nat} {A : Nat → Int → Int} {f l : Nat → Int} {a : Nat → Int → Int} {b : fk_M} {u k : Nat}
theorem IV.hm (h : IV x n g b0 F P A f a b u k) : Hm f a := by
  rcases h.1.kq with ⟨h1, -⟩ | ⟨h1, hR, -⟩
  · exact Or.inl h1
  · exact Or.inr ⟨h1, hR⟩
theorem IV.low (h : IV x n g b0 F P A f a b u k) : Low x b0 b := h.2.2.2.2.2.1
theorem IV.uk (h : IV x n g b0 F P A f a b u k) : u ≤ 16 ∧ k ≤ 3 ∧ x + 24 ≤ n ∧ ∀ q, n ≤ q → b q = none := by
  obtain ⟨⟨⟨h1, h2, h3, h4, h5, -⟩, -⟩, -⟩ := h
  exact ⟨h4, h5, h2, h1⟩
/-- a query changes no more than these -/
theorem IV.q {F' : Nat → Int} {A' : Nat → Int → Int} {f' : Nat → Int} {a' : Nat → Int → Int} {w : Int} (h : IV x n g b0 F P A f a b u k) (hF : ke F F') (h4 : F' 4 = w) (h3 : F' 3 = -1) (hA : A' 0 = A 0) (h11 : f' 11 = w) (hk : mk f f') (ha : ma a a') (hw : 0 ≤ w ∧ w ≤ 6 ∧ w ≠ 4) : IV x n g b0 F' P A' f' a' b u k := by
  obtain ⟨k1, ⟨k2, k3⟩, ⟨k4, k5, k6⟩, ⟨k7, k8, k9, k90⟩, k10, k11, k12⟩ := h
  obtain ⟨f1, f2, f3, f4, f5, f6⟩ := hF
  obtain ⟨m1, m2, m3, m4, m5, m6⟩ := hk
  obtain ⟨a1, a2, a3, a4, a5, a6⟩ := ha
  refine ⟨?_, ⟨m5.trans k2, m6.trans k3⟩, ⟨by omega, by omega, by omega⟩, ⟨by omega, by omega, ?_, by omega⟩, fun t t0 t1 => ?_, k11, k12⟩
  · rw [m4, a2, a3, a4, a5, a6]
    exact k1.F' f4 f6
  · rw [h11, if_neg hw.2.2]
    exact h3
  · rw [f1] at t1
    rw [hA, a1]
    exact k10 t t0 t1
theorem wy_n4 (c d : Prop) [Decidable c] [Decidable d] : 0 ≤ wy c d ∧ wy c d ≤ 6 ∧ wy c d ≠ 4 := by
  have := wy_rg c d
  omega
theorem wl_n4 (c : Prop) [Decidable c] (s m : Int) : 0 ≤ wl c s m ∧ wl c s m ≤ 6 ∧ wl c s m ≠ 4 := by
  have := wl_rg c s m
  omega
theorem it_n4 (c : Prop) [Decidable c] : 0 ≤ (if c then (0 : Int) else 1) ∧ (if c then (0 : Int) else 1) ≤ 6 ∧ (if c then (0 : Int) else 1) ≠ 4 := by
  split <;> omega
/-- what a query leaves on both sides -/
theorem IV.qq {r w : Int} {res : Option (Int32 × fk_M)} {M : fk_M → Option (Int32 × fk_M)} (h : IV x n g b0 F P A f a b u k) (hk : KO x F P A f l a b r w res) (hm : ∀ F A, MO x F P A f l a b r w (M (hp x F P A f l a b))) (hw : 0 ≤ w ∧ w ≤ 6 ∧ w ≠ 4) : ∃ m1 m2, res = some (ii r, m1) ∧ isO m1 (some (x + 8)) 1 = some () ∧ Low x b0 m1 ∧ M m1 = some (ii r, m2) ∧ Inv x n g b0 m2 := by
  obtain ⟨F', A', k1, k2, k3, k4, k5⟩ := hk
  obtain ⟨f', l', a', m1, m2, m3, m4, m5⟩ := hm F' A'
  exact ⟨_, _, k1, ok1 .., h.low.hp _ _ _ _ _ _, m1, F', P, A', f', l', a', b, u, k, rfl, h.q k4 k2 k3 k5 m3 m4 m5 hw⟩
theorem IV.ql {z : Int64} {w : Int} {res : Option (Int64 × fk_M)} {M : fk_M → Option (Int64 × fk_M)} (h : IV x n g b0 F P A f a b u k) (hk : KL x F P A f l a b z w res) (hm : ∀ F A, ML x F P A f l a b z w (M (hp x F P A f l a b))) (hw : 0 ≤ w ∧ w ≤ 6 ∧ w ≠ 4) : ∃ m1 m2, res = some (z, m1) ∧ isO m1 (some (x + 8)) 1 = some () ∧ Low x b0 m1 ∧ M m1 = some (z, m2) ∧ Inv x n g b0 m2 := by
  obtain ⟨F', A', k1, k2, k3, k4, k5⟩ := hk
  obtain ⟨f', l', a', m1, m2, m3, m4, m5⟩ := hm F' A'
  exact ⟨_, _, k1, ok1 .., h.low.hp _ _ _ _ _ _, m1, F', P, A', f', l', a', b, u, k, rfl, h.q k4 k2 k3 k5 m3 m4 m5 hw⟩
/-! rows of what is kept -/
theorem Nt.ex (U σ : Int → Int) (u : Nat) : ∃ U', Nt U σ U' u := by
  refine ⟨fun z => if u = 16 then (if z / 36 < 15 then U (z + 36) else σ (z % 36)) else (if z / 36 < u then U z else σ (z % 36)), fun i t t0 t1 => ?_⟩
  have e1 : (36 * (i : Int) + t) / 36 = i := by omega
  have e2 : (36 * (i : Int) + t) % 36 = t := by omega
  unfold rw_
  refine ⟨fun h => ⟨fun h1 => ?_, fun h1 => ?_⟩, fun h => ⟨fun h1 => ?_, fun h1 => ?_⟩⟩
  · dsimp only
    rw [if_pos h, e1, if_pos (by omega)]
    congr 1
    omega
  · dsimp only
    rw [if_pos h, e1, if_neg (by omega), e2]
  · dsimp only
    rw [if_neg h, e1, if_pos (by omega)]
  · dsimp only
    rw [if_neg h, e1, if_neg (by omega), e2]
theorem Nt.eq {U σ U1 U2 : Int → Int} {u : Nat} (hu : u ≤ 16) (h1 : Nt U σ U1 u) (h2 : Nt U σ U2 u) : ∀ i, i < nu u → ∀ t, 0 ≤ t → t < 36 → rw_ U1 i t = rw_ U2 i t := by
  intro i hi t t0 t1
  obtain ⟨p1, p2⟩ := h1 i t t0 t1
  obtain ⟨q1, q2⟩ := h2 i t t0 t1
  unfold nu at hi
  by_cases h16 : u = 16
  · rw [if_pos h16] at hi
    by_cases h15 : i < 15
    · rw [(p1 h16).1 h15, (q1 h16).1 h15]
    · rw [(p1 h16).2 (by omega), (q1 h16).2 (by omega)]
  · rw [if_neg h16] at hi
    by_cases h15 : i < u
    · rw [(p2 h16).1 h15, (q2 h16).1 h15]
    · rw [(p2 h16).2 (by omega), (q2 h16).2 (by omega)]
theorem Nk.ex (K σ : Int → Int) (k : Nat) : ∃ K', Nk K σ K' k := by
  refine ⟨fun z => if z / 36 < k then K z else σ (z % 36), fun i t t0 t1 => ?_⟩
  have e1 : (36 * (i : Int) + t) / 36 = i := by omega
  have e2 : (36 * (i : Int) + t) % 36 = t := by omega
  unfold rw_
  refine ⟨fun h1 => ?_, fun h1 => ?_⟩
  · dsimp only
    rw [e1, if_pos (by omega)]
  · dsimp only
    rw [e1, if_neg (by omega), e2]
theorem Nk.eq {K σ K1 K2 : Int → Int} {k : Nat} (h1 : Nk K σ K1 k) (h2 : Nk K σ K2 k) : ∀ i, i < k + 1 → ∀ t, 0 ≤ t → t < 36 → rw_ K1 i t = rw_ K2 i t := by
  intro i hi t t0 t1
  obtain ⟨p1, p2⟩ := h1 i t t0 t1
  obtain ⟨q1, q2⟩ := h2 i t t0 t1
  by_cases h15 : i < k
  · rw [p1 h15, q1 h15]
  · rw [p2 (by omega), q2 (by omega)]
/-- an act that isn't done -/
theorem IV.ar {kk : Nat} {z w : Int} {res : Option (Int32 × Nat × Nat × fk_M)} {M : fk_M → Option (Int32 × fk_M)} (h : IV x n g b0 F P A f a b u k) (hk : AR x n F P A f l a b kk z w res) (hm : ∀ F, MO x F P A f l a b z w (M (hp x F P A f l a b))) (hw : 0 ≤ w ∧ w ≤ 6 ∧ w ≠ 4) : ∃ m1 m2, res = some (ii z, n, kk, m1) ∧ isO m1 (some (x + 8)) 1 = some () ∧ Low x b0 m1 ∧ M m1 = some (ii z, m2) ∧ Inv x n g b0 m2 := by
  obtain ⟨f', l', a', m1, m2, m3, m4, m5⟩ := hm (Fo F w)
  refine ⟨_, _, hk, ok1 .., h.low.hp _ _ _ _ _ _, m1, Fo F w, P, A, f', l', a', b, u, k, rfl, h.q ?_ (Fo_4 ..) (Fo_3 ..) rfl m3 m4 m5 hw⟩
  refine ⟨?_, ?_, ?_, ?_, ?_, ?_⟩ <;> exact (u1_ne _ _ (by omega)).trans (u1_ne _ _ (by omega))
/-- an act that is done and remembered -/
theorem IV.ak {kk : Nat} {r : Int} {σ' U' : Int → Int} {z : Int32} {res : Option (Int32 × Nat × Nat × fk_M)} {M : fk_M → Option (Int32 × fk_M)} (h : IV x n g b0 F P A f a b u k) (h14 : f 14 = 1) (hN : Nt (a 20) (a 19) U' u) (hk : AK x n g F A f l a b kk (a 15) (a 17) σ' U' (nu u) (a 21) k z res) (hz : z = ii r) (hm : ∀ F P A b, MA x F P A f l a b u r σ' (M (hp x F P A f l a b))) : ∃ n' k' m1 m2, res = some (ii r, n', k', m1) ∧ (n ≤ n' ∧ n' ≤ n + 5 ∧ kk ≤ k' ∧ k' ≤ kk + 62) ∧ isO m1 (some (x + 8)) 1 = some () ∧ Low x b0 m1 ∧ M m1 = some (ii r, m2) ∧ Inv x n' g b0 m2 := by
  have huk := h.uk
  obtain ⟨k1, ⟨k2, k3⟩, ⟨k4, k5, k6⟩, ⟨k7, k8, k9, k90⟩, k10, k11, j, k12⟩ := h
  obtain ⟨F', P', A', b', n', k', e1, e2, ⟨e3, e4, e5, e6, e7⟩, e8, e9, e10, e11, e12⟩ := hk
  obtain ⟨f', l', a', m1, m2, m3, ⟨m4, m5, m6, m7, m8⟩, ⟨m9, m10, m11, m12⟩, m13, m14, m15⟩ := hm F' P' A' b'
  have hlow : Low x b0 b' := fun q hq => (e12 q (Or.inl hq)).trans (k11 q hq)
  refine ⟨n', k', _, _, by rw [e1, hz], ⟨e8, e9, e10, e11⟩, ok1 .., hlow.hp _ _ _ _ _ _, m1, F', P', A', f', l', a', b', nu u, k, rfl, ?_, ⟨m14, m8.trans k3⟩, ⟨by omega, by omega, by omega⟩, ⟨by omega, by omega, ?_, by omega⟩, fun t t0 t1 => ?_, hlow, j, (e12 (x + 24) (Or.inr ⟨by omega, _, _, _, k12⟩)).trans k12⟩
  · rw [m7, h14, m10, m11, m12]
    exact e2.cg m13 (fun i hi t t0 t1 => Nt.eq huk.1 m15 hN i hi t t0 t1) (fun _ _ _ _ _ => rfl)
  · rw [m3, if_neg (by omega)]
    exact e4
  · rw [e5] at t1
    rw [e7, m9]
    exact k10 t t0 t1
/-! a pier's numbers, told by others that agree -/
theorem Rg.cgr {ρ ρ' τ τ' σ σ' : Int → Int} (h : Rg ρ τ σ) (hρ : ∀ t, 0 ≤ t → t < 95 → ρ' t = ρ t) (hτ : ∀ t, 0 ≤ t → t < 36 → τ' t = τ t) (hσ : ∀ t, 0 ≤ t → t < 36 → σ' t = σ t) : Rg ρ' τ' σ' := by
  have e0 := hρ 0 (by omega) (by omega)
  have e1 := hρ 1 (by omega) (by omega)
  have e2 := hρ 2 (by omega) (by omega)
  have e3 := hρ 3 (by omega) (by omega)
  have e4 := hρ 4 (by omega) (by omega)
  have e5 := hρ 5 (by omega) (by omega)
  have e6 := hρ 6 (by omega) (by omega)
  have s35 := hσ 35 (by omega) (by omega)
  obtain ⟨h1, h2, h3, h4, h5, h6, h7, h8, h9, h10, h11, h12, h13⟩ := h
  refine ⟨by omega, by omega, by omega, by omega, by omega, by omega, by omega, fun p p0 p1 => ?_, fun p q p0 p1 q0 q1 => ?_, fun k k0 k1 => ?_, fun k j k0 k1 j0 j1 hkj => ?_, fun k k0 k1 => ?_, by omega⟩
  · rw [hρ (8 + p) (by omega) (by omega), hρ (13 + p) (by omega) (by omega), hτ p (by omega) (by omega), hτ (5 + p) (by omega) (by omega), hσ p (by omega) (by omega), hσ (5 + p) (by omega) (by omega), e0]
    exact h8 p p0 (by omega)
  · rw [hσ (10 + 5 * p + q) (by omega) (by omega)]
    exact h9 p q p0 (by omega) q0 (by omega)
  · rw [hρ (18 + 2 * k) (by omega) (by omega), hρ (18 + 2 * k + 1) (by omega) (by omega), e2]
    exact h10 k k0 (by omega)
  · rw [hρ (18 + 2 * k) (by omega) (by omega), hρ (18 + 2 * j) (by omega) (by omega)] at hkj
    exact h11 k j k0 (by omega) j0 (by omega) hkj
  · rw [hρ (26 + 3 * k) (by omega) (by omega), hρ (26 + 3 * k + 1) (by omega) (by omega), hρ (26 + 3 * k + 2) (by omega) (by omega), e0, e2]
    exact h12 k k0 (by omega)
theorem Gr.cgr {x : Nat} {m : fk_M} {ρ ρ' τ τ' σ : Int → Int} {q lw hk : Int → Nat} {pa un l4 l5 l6 e4 e6 : Nat} (h : Gr x m ρ τ q lw hk pa un l4 l5 l6 e4 e6) (hR : Rg ρ τ σ) (hρ : ∀ t, 0 ≤ t → t < 95 → ρ' t = ρ t) (hτ : ∀ t, 0 ≤ t → t < 36 → τ' t = τ t) : Gr x m ρ' τ' q lw hk pa un l4 l5 l6 e4 e6 := by
  have e0 := hρ 0 (by omega) (by omega)
  have e1 := hρ 1 (by omega) (by omega)
  have e2 := hρ 2 (by omega) (by omega)
  have e3 := hρ 3 (by omega) (by omega)
  have e4' := hρ 4 (by omega) (by omega)
  have e5 := hρ 5 (by omega) (by omega)
  have e6' := hρ 6 (by omega) (by omega)
  obtain ⟨r1, r2, r3, r4, r5, r6, r7, r8, -⟩ := hR
  unfold Gr at h ⊢
  rw [e0, e1, e2, e3, e4', e5, e6']
  obtain ⟨h1, h2, h3, h4, ⟨gv, h5, h5'⟩, h6, h7, h8, h9, h10⟩ := h
  refine ⟨h1, h2, h3, h4, ⟨gv, h5, fun k k0 k1 => ?_⟩, fun p p0 p1 => ?_, fun k k0 k1 => ?_, fun p p0 p1 => ?_, fun k k0 k1 => ?_, h10⟩
  · rw [hρ (18 + 2 * k) (by omega) (by omega)]
    exact h5' k k0 k1
  · rw [hτ p (by omega) (by omega), hτ (5 + p) (by omega) (by omega), hρ (13 + p) (by omega) (by omega)]
    exact h6 p p0 p1
  · rw [hρ (18 + 2 * k) (by omega) (by omega), hρ (18 + 2 * k + 1) (by omega) (by omega)]
    exact h7 k k0 k1
  · rw [hρ (8 + p) (by omega) (by omega)]
    exact h8 p p0 p1
  · rw [hρ (26 + 3 * k) (by omega) (by omega), hρ (26 + 3 * k + 1) (by omega) (by omega), hρ (26 + 3 * k + 2) (by omega) (by omega)]
    exact h9 k k0 k1
theorem KI.cgr {F : Nat → Int} {ρ ρ' τ τ' σ σ' U K : Int → Int} (hK : KI x n g F P b 1 ρ τ σ U 0 K 0) (hρ : ∀ t, 0 ≤ t → t < 95 → ρ' t = ρ t) (hτ : ∀ t, 0 ≤ t → t < 36 → τ' t = τ t) (hσ : ∀ t, 0 ≤ t → t < 36 → σ' t = σ t) : KI x n g F P b 1 ρ' τ' σ' U 0 K 0 := by
  obtain ⟨hh, ep, cp, gp, ei, ci, gi, p100, p110, hLp, hLi, hne, h0 | ⟨e1, hR, q, lw, hk', pa, sg, un, l4, l5, l6, e4, e6, ps, im, p5, p6, hG, hp4, hi4, ⟨hS, hsx⟩, hps, him, hdp, hdi⟩⟩ := hK
  · omega
  · exact ⟨hh, ep, cp, gp, ei, ci, gi, p100, p110, hLp, hLi, hne, Or.inr ⟨e1, hR.cgr hρ hτ hσ, q, lw, hk', pa, sg, un, l4, l5, l6, e4, e6, ps, im, p5, p6, hG.cgr hR hρ hτ, hp4, hi4, ⟨hS.cg (fun _ _ _ => rfl) hσ, hsx⟩, fun i hi => by omega, fun i hi => by omega, fun i j hi => by omega, fun i j hi => by omega⟩⟩
end IVS
