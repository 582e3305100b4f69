/-! PLAIN 7: the model: unsure steps -/
set_option maxRecDepth 100000
/-- what a query of the model keeps -/
def mk (f f' : Nat → Int) : Prop := f' 2 = f 2 ∧ f' 9 = f 9 ∧ f' 10 = f 10 ∧ f' 14 = f 14 ∧ f' 22 = f 22 ∧ f' 23 = f 23
def ma (a a' : Nat → Int → Int) : Prop := a' 1 = a 1 ∧ a' 15 = a 15 ∧ a' 17 = a 17 ∧ a' 19 = a 19 ∧ a' 20 = a 20 ∧ a' 21 = a 21
theorem mk.rfl' (f : Nat → Int) : mk f f := ⟨rfl, rfl, rfl, rfl, rfl, rfl⟩
theorem ma.rfl' (a : Nat → Int → Int) : ma a a := ⟨rfl, rfl, rfl, rfl, rfl, rfl⟩
theorem mk.tr {F G H : Nat → Int} (h1 : mk F G) (h2 : mk G H) : mk F H := ⟨h2.1.trans h1.1, h2.2.1.trans h1.2.1, h2.2.2.1.trans h1.2.2.1, h2.2.2.2.1.trans h1.2.2.2.1, h2.2.2.2.2.1.trans h1.2.2.2.2.1, h2.2.2.2.2.2.trans h1.2.2.2.2.2⟩
theorem ma.tr {F G H : Nat → Int → Int} (h1 : ma F G) (h2 : ma G H) : ma F H := ⟨h2.1.trans h1.1, h2.2.1.trans h1.2.1, h2.2.2.1.trans h1.2.2.1, h2.2.2.2.1.trans h1.2.2.2.1, h2.2.2.2.2.1.trans h1.2.2.2.2.1, h2.2.2.2.2.2.trans h1.2.2.2.2.2⟩
theorem mk.u (f : Nat → Int) (k : Nat) (v : Int) (h : k ≠ 2 ∧ k ≠ 9 ∧ k ≠ 10 ∧ k ≠ 14 ∧ k ≠ 22 ∧ k ≠ 23) : mk f (u1 f k v) := ⟨u1_ne _ _ (by omega), u1_ne _ _ (by omega), u1_ne _ _ (by omega), u1_ne _ _ (by omega), u1_ne _ _ (by omega), u1_ne _ _ (by omega)⟩
theorem ma.u (a : Nat → Int → Int) (k : Nat) (i v : Int) (h : k ≠ 1 ∧ k ≠ 15 ∧ k ≠ 17 ∧ k ≠ 19 ∧ k ≠ 20 ∧ k ≠ 21) : ma a (u2 a k i v) := ⟨u2_nk _ _ _ (by omega), u2_nk _ _ _ (by omega), u2_nk _ _ _ (by omega), u2_nk _ _ _ (by omega), u2_nk _ _ _ (by omega), u2_nk _ _ _ (by omega)⟩
theorem mk.o (f : Nat → Int) (w : Int) : mk f (fo f w) := (mk.u f 0 0 (by omega)).tr (mk.u _ 11 w (by omega))
def MO (x : Nat) (F : Nat → Int) (P : Nat → Option Nat) (A : Nat → Int → Int) (f l : Nat → Int) (a : Nat → Int → Int) (b : fk_M) (r w : Int) (res : Option (Int32 × fk_M)) : Prop := ∃ f' l' a', res = some (ii r, hp x F P A f' l' a' b) ∧ f' 0 = 0 ∧ f' 11 = w ∧ mk f f' ∧ ma a a'
theorem MO.of {x : Nat} {F : Nat → Int} {P : Nat → Option Nat} {A : Nat → Int → Int} {f l : Nat → Int} {a : Nat → Int → Int} {b : fk_M} {r w : Int} {res : Option (Int32 × fk_M)} (h : res = some (ii r, hp x F P A (fo f w) l a b)) : MO x F P A f l a b r w res := ⟨fo f w, l, a, h, (u1_ne _ _ (by omega)).trans (u1_eq ..), u1_eq .., mk.o .., ma.rfl' _⟩
theorem MO.ref (x : Nat) (F : Nat → Int) (P : Nat → Option Nat) (A : Nat → Int → Int) (f l : Nat → Int) (a : Nat → Int → Int) (b : fk_M) (w : Int) : MO x F P A f l a b (-1) w (some (ii (-1), hp x F P A (fo f w) l a b)) := MO.of rfl
theorem MO.mk {x : Nat} {F : Nat → Int} {P : Nat → Option Nat} {A : Nat → Int → Int} {f l : Nat → Int} {a : Nat → Int → Int} {b : fk_M} {r : Int} {res : Option (Int32 × fk_M)} (f' l' : Nat → Int) (a' : Nat → Int → Int) (h : res = some (ii r, hp x F P A f' l' a' b)) (h0 : f' 0 = 0) (h11 : f' 11 = 0) (hm : mk f f') (ha : ma a a') : MO x F P A f l a b r 0 res := ⟨f', l', a', h, h0, h11, hm, ha⟩
/-- steps by a set of unsure ones -/
def stb (ρ τ : Int → Int) (p s : Int) : Int := match fn (fun k => ρ (18 + 2 * k) = p ∧ hb s k) (ρ 5).toNat 0 with
  | some k => ρ (18 + 2 * k + 1)
  | none => τ (5 + p)
def tz (τ : Int → Int) : Int → Int := fun i => if i = 35 then 0 else τ i
/-- what was said at first behind so many seasons -/
def td (ρ τ : Int → Int) (p s : Int) (n : Nat) : Int := tl ρ (tz τ) p (stb ρ τ p s) (ρ (13 + p)) n
theorem Rg.us {ρ τ σ : Int → Int} (h : Rg ρ τ σ) {k : Int} (h0 : 0 ≤ k) (h1 : k < ρ 5) : (0 ≤ ρ (18 + 2 * k) ∧ ρ (18 + 2 * k) < ρ 2) ∧ (0 ≤ ρ (18 + 2 * k + 1) ∧ ρ (18 + 2 * k + 1) ≤ 20) := h.2.2.2.2.2.2.2.2.2.1 k h0 h1
theorem Rg.ud {ρ τ σ : Int → Int} (h : Rg ρ τ σ) {k j : Int} (h0 : 0 ≤ k) (h1 : k < ρ 5) (h2 : 0 ≤ j) (h3 : j < ρ 5) (e : ρ (18 + 2 * k) = ρ (18 + 2 * j)) : k = j := h.2.2.2.2.2.2.2.2.2.2.1 k j h0 h1 h2 h3 e
theorem Rg.hd {ρ τ σ : Int → Int} (h : Rg ρ τ σ) {k : Int} (h0 : 0 ≤ k) (h1 : k < ρ 6) : (0 ≤ ρ (26 + 3 * k) ∧ ρ (26 + 3 * k) < ρ 2) ∧ (1 ≤ ρ (26 + 3 * k + 1) ∧ ρ (26 + 3 * k + 1) ≤ 30) ∧ (0 ≤ ρ (26 + 3 * k + 2) ∧ ρ (26 + 3 * k + 2) ≤ ρ 0) := h.2.2.2.2.2.2.2.2.2.2.2.1 k h0 h1
theorem Rg.nm {ρ τ σ : Int → Int} (h : Rg ρ τ σ) : (0 ≤ ρ 3 ∧ ρ 3 ≤ 5) ∧ (0 ≤ ρ 4 ∧ ρ 4 ≤ 10) ∧ (0 ≤ ρ 5 ∧ ρ 5 ≤ 4) ∧ (0 ≤ ρ 6 ∧ ρ 6 ≤ 8) := ⟨h.2.2.2.1, h.2.2.2.2.1, h.2.2.2.2.2.1, h.2.2.2.2.2.2.1⟩
theorem stb_rg {ρ τ σ : Int → Int} (h : Rg ρ τ σ) {p : Int} (h0 : 0 ≤ p) (h1 : p < ρ 2) (s : Int) : 0 ≤ stb ρ τ p s ∧ stb ρ τ p s ≤ 20 := by
  unfold stb
  have hn := h.nm
  have hq := h.pr h0 h1
  split
  · rename_i k e
    have hk := (fn_rg _ _ _ e).1
    have := h.us hk.1 (by omega)
    omega
  · omega
theorem td_rg {ρ τ σ : Int → Int} (h : Rg ρ τ σ) {p : Int} (h0 : 0 ≤ p) (h1 : p < ρ 2) (s : Int) (n : Nat) : 0 ≤ td ρ τ p s n ∧ td ρ τ p s n ≤ ρ 0 := by
  have hw := h.wd
  have hq := h.pr h0 h1
  have e : tz τ p = τ p := if_neg (by omega)
  exact tl_rg (by omega) (by omega) (by omega) n
/-- the last one that fits is the first one, where there is one at most -/
theorem itr_one {c : Int → Prop} [DecidablePred c] {v : Int → Int} : ∀ (d : Nat) (k e : Int), (∀ i j, k ≤ i → i < k + d → k ≤ j → j < k + d → c i → c j → i = j) → itr (fun u k => if c k then v k else u) d k e = (match fn c d k with | some j => v j | none => e) := by
  intro d
  induction d with
  | zero => intro k e _; rfl
  | succ d ih =>
    intro k e hu
    show itr (fun u k => if c k then v k else u) d (k + 1) (if c k then v k else e) = (match (if c k then some k else fn c d (k + 1)) with | some j => v j | none => e)
    rw [ih (k + 1) _ (fun i j h1 h2 h3 h4 h5 h6 => hu i j (by omega) (by omega) (by omega) (by omega) h5 h6)]
    by_cases hc : c k
    · rw [if_pos hc, if_pos hc]
      cases hf : fn c d (k + 1) with
      | none => rfl
      | some j =>
        have hj := fn_rg _ _ _ hf
        have := hu k j (by omega) (by omega) (by omega) (by omega) hc hj.2.1
        omega
    · rw [if_neg hc, if_neg hc]
theorem m_stepBy (x : Nat) (F : Nat → Int) (P : Nat → Option Nat) (A : Nat → Int → Int) (f l : Nat → Int) (a : Nat → Int → Int) (b : fk_M) {p s : Int} (hR : Rg (a 15) (a 17) (a 19)) (h0 : 0 ≤ p) (h1 : p < a 15 2) : f_X2_stepBy (some (x + 8)) (ii p) (ii s) (hp x F P A f l a b) = some (ii (stb (a 15) (a 17) p s)) := by
  have hw := hR.wd
  have hn := hR.nm
  have hq := hR.pr h0 h1
  unfold f_X2_stepBy
  have hL := loop_i0 (fun N u k => f_X2_stepBy_L12 (some (x + 8)) (ii p) (ii s) (hp x F P A f l a b) N (ii u) (ii k)) (fun u k => if a 15 (18 + 2 * k) = p ∧ hb s k then a 15 (18 + 2 * k + 1) else u) (fun u => some (ii u)) (lo := 0) (hi := a 15 5) ?_ ?_ (a 15 5).toNat fk_fuel (a 17 (5 + p)) 0 (by omega) (by omega) (by unfold fk_fuel; omega)
  · simp (disch := first | omega | assumption) only [Option.bind_some, bn2_some, ii_lit, ii_neg, ii_add, ii_sub, ii_mul, ii_le, ii_lt, ii_eq, ii_ite, ii_or, ii_and, ii_bit, ii_rem, ii_div, b0_, b1_, b2_, b3_, true_and, and_true, u1_eq, u1_ne, u2_eq, u2_nk, u2_ni, uP_eq, uP_ne, gk1, gk2, gk3, gk4, gk10, gk11, gk12, gk13, gk14, gk15, gk17, gkr0, gkr7, gkr8, gkr9, gkr16, gkr18, gkr19, gkr5, gkr6, ok0, ok1, ok2, ok3, gl2_0, gl2_1, gl2_2, gl3_0, gl3_1, gl3_2, gm0, gm2, gm3, gm4, gm5, gm6, gm7, gm8, gm9, gm10, gm11, gm13, gm14, gm22, gm23, gm26, gm27, gm28, gm29, gm31, gm32, gm33, gm36, gm37, gm39, gm40, gm41, gm1, gm12, gm15, gm16, gm17, gm18, gm19, gm20, gm21, gm24, gm25, gm30, gm34, gm35, gm38, rk0, sk0, rk9, sk9, rk16, sk16, rk18, sk18, rk19, sk19, rm1, sm1, rm12, sm12, rm15, sm15, rm16, sm16, rm17, sm17, rm18, sm18, rm19, sm19, rm20, sm20, rm21, sm21, rm24, sm24, rm25, sm25, rm30, sm30, rm34, sm34, rm35, sm35, rm38, sm38, pk1, pk2, pk3, pk4, pk10, pk11, pk12, pk13, pk14, pk15, pk17, pkr5, pkr6, pm0, pm2, pm3, pm4, pm5, pm6, pm7, pm8, pm9, pm10, pm11, pm13, pz13_0, pz13_1, pm14, pz14_0, pz14_1, pm22, pm23, pm26, pm27, pm28, pm29, pm31, pm32, pm33, pm36, pm37, pm39, pm40, pm41, pl2_0, pl2_1, pl2_2, pl3_0, pl3_1, pl3_2]
    refine hL.trans ?_
    rw [itr_one]
    · rfl
    · intro i j h1 h2 h3 h4 h5 h6
      exact hR.ud h1 (by omega) h3 (by omega) (h5.1.trans h6.1.symm)
  · intros
    try dsimp only
    rw [f_X2_stepBy_L12]
    simp (disch := first | omega | assumption) only [Option.bind_some, bn2_some, ii_lit, ii_neg, ii_add, ii_sub, ii_mul, ii_le, ii_lt, ii_eq, ii_ite, ii_or, ii_and, ii_bit, ii_rem, ii_div, b0_, b1_, b2_, b3_, true_and, and_true, u1_eq, u1_ne, u2_eq, u2_nk, u2_ni, uP_eq, uP_ne, gk1, gk2, gk3, gk4, gk10, gk11, gk12, gk13, gk14, gk15, gk17, gkr0, gkr7, gkr8, gkr9, gkr16, gkr18, gkr19, gkr5, gkr6, ok0, ok1, ok2, ok3, gl2_0, gl2_1, gl2_2, gl3_0, gl3_1, gl3_2, gm0, gm2, gm3, gm4, gm5, gm6, gm7, gm8, gm9, gm10, gm11, gm13, gm14, gm22, gm23, gm26, gm27, gm28, gm29, gm31, gm32, gm33, gm36, gm37, gm39, gm40, gm41, gm1, gm12, gm15, gm16, gm17, gm18, gm19, gm20, gm21, gm24, gm25, gm30, gm34, gm35, gm38, rk0, sk0, rk9, sk9, rk16, sk16, rk18, sk18, rk19, sk19, rm1, sm1, rm12, sm12, rm15, sm15, rm16, sm16, rm17, sm17, rm18, sm18, rm19, sm19, rm20, sm20, rm21, sm21, rm24, sm24, rm25, sm25, rm30, sm30, rm34, sm34, rm35, sm35, rm38, sm38, pk1, pk2, pk3, pk4, pk10, pk11, pk12, pk13, pk14, pk15, pk17, pkr5, pkr6, pm0, pm2, pm3, pm4, pm5, pm6, pm7, pm8, pm9, pm10, pm11, pm13, pz13_0, pz13_1, pm14, pz14_0, pz14_1, pm22, pm23, pm26, pm27, pm28, pm29, pm31, pm32, pm33, pm36, pm37, pm39, pm40, pm41, pl2_0, pl2_1, pl2_2, pl3_0, pl3_1, pl3_2]
    rw [if_pos (by omega)]
  · intro N u k k1 k2
    have hu := hR.us k1 k2
    try dsimp only
    rw [f_X2_stepBy_L12]
    simp (disch := first | omega | assumption) only [Option.bind_some, bn2_some, ii_lit, ii_neg, ii_add, ii_sub, ii_mul, ii_le, ii_lt, ii_eq, ii_ite, ii_or, ii_and, ii_bit, ii_rem, ii_div, b0_, b1_, b2_, b3_, true_and, and_true, u1_eq, u1_ne, u2_eq, u2_nk, u2_ni, uP_eq, uP_ne, gk1, gk2, gk3, gk4, gk10, gk11, gk12, gk13, gk14, gk15, gk17, gkr0, gkr7, gkr8, gkr9, gkr16, gkr18, gkr19, gkr5, gkr6, ok0, ok1, ok2, ok3, gl2_0, gl2_1, gl2_2, gl3_0, gl3_1, gl3_2, gm0, gm2, gm3, gm4, gm5, gm6, gm7, gm8, gm9, gm10, gm11, gm13, gm14, gm22, gm23, gm26, gm27, gm28, gm29, gm31, gm32, gm33, gm36, gm37, gm39, gm40, gm41, gm1, gm12, gm15, gm16, gm17, gm18, gm19, gm20, gm21, gm24, gm25, gm30, gm34, gm35, gm38, rk0, sk0, rk9, sk9, rk16, sk16, rk18, sk18, rk19, sk19, rm1, sm1, rm12, sm12, rm15, sm15, rm16, sm16, rm17, sm17, rm18, sm18, rm19, sm19, rm20, sm20, rm21, sm21, rm24, sm24, rm25, sm25, rm30, sm30, rm34, sm34, rm35, sm35, rm38, sm38, pk1, pk2, pk3, pk4, pk10, pk11, pk12, pk13, pk14, pk15, pk17, pkr5, pkr6, pm0, pm2, pm3, pm4, pm5, pm6, pm7, pm8, pm9, pm10, pm11, pm13, pz13_0, pz13_1, pm14, pz14_0, pz14_1, pm22, pm23, pm26, pm27, pm28, pm29, pm31, pm32, pm33, pm36, pm37, pm39, pm40, pm41, pl2_0, pl2_1, pl2_2, pl3_0, pl3_1, pl3_2, f_X2_stepBy_J63, m_hasBit]
    rw [if_neg (by omega)]
    by_cases c1 : a 15 (18 + 2 * k) = p
    · by_cases c2 : hb s k
      · rw [if_pos c1, if_neg (fun h => h c2), if_pos ⟨c1, c2⟩]
      · rw [if_pos c1, if_pos c2, if_neg (fun h => c2 h.2)]
    · rw [if_neg c1, if_neg (fun h => c1 h.1)]
theorem m_saidThen (x : Nat) (F : Nat → Int) (P : Nat → Option Nat) (A : Nat → Int → Int) (f l : Nat → Int) (a : Nat → Int → Int) (b : fk_M) {p n s : Int} (hR : Rg (a 15) (a 17) (a 19)) (h0 : 0 ≤ p) (h1 : p < a 15 2) (h2 : 0 ≤ n) (h3 : n ≤ 100) : f_X2_saidThen (some (x + 8)) (ii p) (ii n) (ii s) (hp x F P A f l a b) = some (ii (td (a 15) (a 17) p s n.toNat)) := by
  have hw := hR.wd
  have hn := hR.nm
  have hq := hR.pr h0 h1
  have hs := stb_rg hR h0 h1 s
  have ez : tz (a 17) p = a 17 p := if_neg (by omega)
  unfold f_X2_saidThen
  have hL := loop_i0 (fun N (_ : Unit) k => f_X2_saidThen_L11 (some (x + 8)) (ii p) (ii n) (ii s) (hp x F P A f l a b) N (ii (td (a 15) (a 17) p s (k - 1).toNat)) (ii k)) (fun u k => u) (fun u => some (ii (td (a 15) (a 17) p s n.toNat))) (lo := 1) (hi := n + 1) ?_ ?_ n.toNat fk_fuel () 1 (by omega) (by omega) (by unfold fk_fuel; omega)
  · simp (disch := first | omega | assumption) only [Option.bind_some, bn2_some, ii_lit, ii_neg, ii_add, ii_sub, ii_mul, ii_le, ii_lt, ii_eq, ii_ite, ii_or, ii_and, ii_bit, ii_rem, ii_div, b0_, b1_, b2_, b3_, true_and, and_true, u1_eq, u1_ne, u2_eq, u2_nk, u2_ni, uP_eq, uP_ne, gk1, gk2, gk3, gk4, gk10, gk11, gk12, gk13, gk14, gk15, gk17, gkr0, gkr7, gkr8, gkr9, gkr16, gkr18, gkr19, gkr5, gkr6, ok0, ok1, ok2, ok3, gl2_0, gl2_1, gl2_2, gl3_0, gl3_1, gl3_2, gm0, gm2, gm3, gm4, gm5, gm6, gm7, gm8, gm9, gm10, gm11, gm13, gm14, gm22, gm23, gm26, gm27, gm28, gm29, gm31, gm32, gm33, gm36, gm37, gm39, gm40, gm41, gm1, gm12, gm15, gm16, gm17, gm18, gm19, gm20, gm21, gm24, gm25, gm30, gm34, gm35, gm38, rk0, sk0, rk9, sk9, rk16, sk16, rk18, sk18, rk19, sk19, rm1, sm1, rm12, sm12, rm15, sm15, rm16, sm16, rm17, sm17, rm18, sm18, rm19, sm19, rm20, sm20, rm21, sm21, rm24, sm24, rm25, sm25, rm30, sm30, rm34, sm34, rm35, sm35, rm38, sm38, pk1, pk2, pk3, pk4, pk10, pk11, pk12, pk13, pk14, pk15, pk17, pkr5, pkr6, pm0, pm2, pm3, pm4, pm5, pm6, pm7, pm8, pm9, pm10, pm11, pm13, pz13_0, pz13_1, pm14, pz14_0, pz14_1, pm22, pm23, pm26, pm27, pm28, pm29, pm31, pm32, pm33, pm36, pm37, pm39, pm40, pm41, pl2_0, pl2_1, pl2_2, pl3_0, pl3_1, pl3_2]
    rw [show td (a 15) (a 17) p s ((1 : Int) - 1).toNat = a 17 p from ez] at hL
    exact hL
  · intro N u
    try dsimp only
    rw [f_X2_saidThen_L11]
    simp (disch := first | omega | assumption) only [Option.bind_some, bn2_some, ii_lit, ii_neg, ii_add, ii_sub, ii_mul, ii_le, ii_lt, ii_eq, ii_ite, ii_or, ii_and, ii_bit, ii_rem, ii_div, b0_, b1_, b2_, b3_, true_and, and_true, u1_eq, u1_ne, u2_eq, u2_nk, u2_ni, uP_eq, uP_ne, gk1, gk2, gk3, gk4, gk10, gk11, gk12, gk13, gk14, gk15, gk17, gkr0, gkr7, gkr8, gkr9, gkr16, gkr18, gkr19, gkr5, gkr6, ok0, ok1, ok2, ok3, gl2_0, gl2_1, gl2_2, gl3_0, gl3_1, gl3_2, gm0, gm2, gm3, gm4, gm5, gm6, gm7, gm8, gm9, gm10, gm11, gm13, gm14, gm22, gm23, gm26, gm27, gm28, gm29, gm31, gm32, gm33, gm36, gm37, gm39, gm40, gm41, gm1, gm12, gm15, gm16, gm17, gm18, gm19, gm20, gm21, gm24, gm25, gm30, gm34, gm35, gm38, rk0, sk0, rk9, sk9, rk16, sk16, rk18, sk18, rk19, sk19, rm1, sm1, rm12, sm12, rm15, sm15, rm16, sm16, rm17, sm17, rm18, sm18, rm19, sm19, rm20, sm20, rm21, sm21, rm24, sm24, rm25, sm25, rm30, sm30, rm34, sm34, rm35, sm35, rm38, sm38, pk1, pk2, pk3, pk4, pk10, pk11, pk12, pk13, pk14, pk15, pk17, pkr5, pkr6, pm0, pm2, pm3, pm4, pm5, pm6, pm7, pm8, pm9, pm10, pm11, pm13, pz13_0, pz13_1, pm14, pz14_0, pz14_1, pm22, pm23, pm26, pm27, pm28, pm29, pm31, pm32, pm33, pm36, pm37, pm39, pm40, pm41, pl2_0, pl2_1, pl2_2, pl3_0, pl3_1, pl3_2]
    rw [if_pos (by omega), show (n + 1 - 1).toNat = n.toNat by omega]
  · intro N u k k1 k2
    have ht := td_rg hR h0 h1 s (k - 1).toNat
    have e1 : td (a 15) (a 17) p s (k + 1 - 1).toNat = bh (a 15) p (td (a 15) (a 17) p s (k - 1).toNat) (stb (a 15) (a 17) p s) (a 15 (13 + p)) k 0 := by
      have h5 : (k + 1 - 1).toNat = (k - 1).toNat + 1 := by omega
      unfold td
      rw [h5]
      show bh _ _ _ _ _ (0 + (((k - 1).toNat : Nat) + 1)) 0 = _
      rw [show (0 : Int) + (((k - 1).toNat : Nat) + 1) = k by omega]
    rw [e1]
    try dsimp only
    rw [f_X2_saidThen_L11]
    simp (disch := first | omega | assumption) only [Option.bind_some, bn2_some, ii_lit, ii_neg, ii_add, ii_sub, ii_mul, ii_le, ii_lt, ii_eq, ii_ite, ii_or, ii_and, ii_bit, ii_rem, ii_div, b0_, b1_, b2_, b3_, true_and, and_true, u1_eq, u1_ne, u2_eq, u2_nk, u2_ni, uP_eq, uP_ne, gk1, gk2, gk3, gk4, gk10, gk11, gk12, gk13, gk14, gk15, gk17, gkr0, gkr7, gkr8, gkr9, gkr16, gkr18, gkr19, gkr5, gkr6, ok0, ok1, ok2, ok3, gl2_0, gl2_1, gl2_2, gl3_0, gl3_1, gl3_2, gm0, gm2, gm3, gm4, gm5, gm6, gm7, gm8, gm9, gm10, gm11, gm13, gm14, gm22, gm23, gm26, gm27, gm28, gm29, gm31, gm32, gm33, gm36, gm37, gm39, gm40, gm41, gm1, gm12, gm15, gm16, gm17, gm18, gm19, gm20, gm21, gm24, gm25, gm30, gm34, gm35, gm38, rk0, sk0, rk9, sk9, rk16, sk16, rk18, sk18, rk19, sk19, rm1, sm1, rm12, sm12, rm15, sm15, rm16, sm16, rm17, sm17, rm18, sm18, rm19, sm19, rm20, sm20, rm21, sm21, rm24, sm24, rm25, sm25, rm30, sm30, rm34, sm34, rm35, sm35, rm38, sm38, pk1, pk2, pk3, pk4, pk10, pk11, pk12, pk13, pk14, pk15, pk17, pkr5, pkr6, pm0, pm2, pm3, pm4, pm5, pm6, pm7, pm8, pm9, pm10, pm11, pm13, pz13_0, pz13_1, pm14, pz14_0, pz14_1, pm22, pm23, pm26, pm27, pm28, pm29, pm31, pm32, pm33, pm36, pm37, pm39, pm40, pm41, pl2_0, pl2_1, pl2_2, pl3_0, pl3_1, pl3_2, m_stepBy, m_behind]
    rw [if_neg (by omega)]
def wrb (ρ τ : Int → Int) (s : Int) : Int := fd (fun k => ¬ td ρ τ (ρ (26 + 3 * k)) s (ρ (26 + 3 * k + 1)).toNat = ρ (26 + 3 * k + 2)) (ρ 6).toNat 0 (-2)
theorem m_wrongBy (x : Nat) (F : Nat → Int) (P : Nat → Option Nat) (A : Nat → Int → Int) (f l : Nat → Int) (a : Nat → Int → Int) (b : fk_M) {s : Int} (hR : Rg (a 15) (a 17) (a 19)) : f_X2_wrongBy (some (x + 8)) (ii s) (hp x F P A f l a b) = some (ii (wrb (a 15) (a 17) s)) := by
  have hw := hR.wd
  have hn := hR.nm
  unfold f_X2_wrongBy
  refine loop_fd (fun N k => f_X2_wrongBy_L2 (some (x + 8)) (ii s) (hp x F P A f l a b) N (ii k)) (fun k => ¬ td (a 15) (a 17) (a 15 (26 + 3 * k)) s (a 15 (26 + 3 * k + 1)).toNat = a 15 (26 + 3 * k + 2)) (fun u => some (ii u)) (-2) (lo := 0) (hi := a 15 6) ?_ ?_ (a 15 6).toNat fk_fuel 0 (by omega) (by omega) (by unfold fk_fuel; omega)
  · intros
    try dsimp only
    rw [f_X2_wrongBy_L2]
    simp (disch := first | omega | assumption) only [Option.bind_some, bn2_some, ii_lit, ii_neg, ii_add, ii_sub, ii_mul, ii_le, ii_lt, ii_eq, ii_ite, ii_or, ii_and, ii_bit, ii_rem, ii_div, b0_, b1_, b2_, b3_, true_and, and_true, u1_eq, u1_ne, u2_eq, u2_nk, u2_ni, uP_eq, uP_ne, gk1, gk2, gk3, gk4, gk10, gk11, gk12, gk13, gk14, gk15, gk17, gkr0, gkr7, gkr8, gkr9, gkr16, gkr18, gkr19, gkr5, gkr6, ok0, ok1, ok2, ok3, gl2_0, gl2_1, gl2_2, gl3_0, gl3_1, gl3_2, gm0, gm2, gm3, gm4, gm5, gm6, gm7, gm8, gm9, gm10, gm11, gm13, gm14, gm22, gm23, gm26, gm27, gm28, gm29, gm31, gm32, gm33, gm36, gm37, gm39, gm40, gm41, gm1, gm12, gm15, gm16, gm17, gm18, gm19, gm20, gm21, gm24, gm25, gm30, gm34, gm35, gm38, rk0, sk0, rk9, sk9, rk16, sk16, rk18, sk18, rk19, sk19, rm1, sm1, rm12, sm12, rm15, sm15, rm16, sm16, rm17, sm17, rm18, sm18, rm19, sm19, rm20, sm20, rm21, sm21, rm24, sm24, rm25, sm25, rm30, sm30, rm34, sm34, rm35, sm35, rm38, sm38, pk1, pk2, pk3, pk4, pk10, pk11, pk12, pk13, pk14, pk15, pk17, pkr5, pkr6, pm0, pm2, pm3, pm4, pm5, pm6, pm7, pm8, pm9, pm10, pm11, pm13, pz13_0, pz13_1, pm14, pz14_0, pz14_1, pm22, pm23, pm26, pm27, pm28, pm29, pm31, pm32, pm33, pm36, pm37, pm39, pm40, pm41, pl2_0, pl2_1, pl2_2, pl3_0, pl3_1, pl3_2]
    rw [if_pos (by omega)]
  · intro N k k1 k2
    have hu := hR.hd k1 k2
    have ht := td_rg hR hu.1.1 hu.1.2 s (a 15 (26 + 3 * k + 1)).toNat
    try dsimp only
    rw [f_X2_wrongBy_L2]
    simp (disch := first | omega | assumption) only [Option.bind_some, bn2_some, ii_lit, ii_neg, ii_add, ii_sub, ii_mul, ii_le, ii_lt, ii_eq, ii_ite, ii_or, ii_and, ii_bit, ii_rem, ii_div, b0_, b1_, b2_, b3_, true_and, and_true, u1_eq, u1_ne, u2_eq, u2_nk, u2_ni, uP_eq, uP_ne, gk1, gk2, gk3, gk4, gk10, gk11, gk12, gk13, gk14, gk15, gk17, gkr0, gkr7, gkr8, gkr9, gkr16, gkr18, gkr19, gkr5, gkr6, ok0, ok1, ok2, ok3, gl2_0, gl2_1, gl2_2, gl3_0, gl3_1, gl3_2, gm0, gm2, gm3, gm4, gm5, gm6, gm7, gm8, gm9, gm10, gm11, gm13, gm14, gm22, gm23, gm26, gm27, gm28, gm29, gm31, gm32, gm33, gm36, gm37, gm39, gm40, gm41, gm1, gm12, gm15, gm16, gm17, gm18, gm19, gm20, gm21, gm24, gm25, gm30, gm34, gm35, gm38, rk0, sk0, rk9, sk9, rk16, sk16, rk18, sk18, rk19, sk19, rm1, sm1, rm12, sm12, rm15, sm15, rm16, sm16, rm17, sm17, rm18, sm18, rm19, sm19, rm20, sm20, rm21, sm21, rm24, sm24, rm25, sm25, rm30, sm30, rm34, sm34, rm35, sm35, rm38, sm38, pk1, pk2, pk3, pk4, pk10, pk11, pk12, pk13, pk14, pk15, pk17, pkr5, pkr6, pm0, pm2, pm3, pm4, pm5, pm6, pm7, pm8, pm9, pm10, pm11, pm13, pz13_0, pz13_1, pm14, pz14_0, pz14_1, pm22, pm23, pm26, pm27, pm28, pm29, pm31, pm32, pm33, pm36, pm37, pm39, pm40, pm41, pl2_0, pl2_1, pl2_2, pl3_0, pl3_1, pl3_2, m_saidThen]
    rw [if_neg (by omega)]
    (repeat' split) <;> first | rfl | omega
theorem wrb_rg {ρ τ σ : Int → Int} (h : Rg ρ τ σ) (s : Int) : -2 ≤ wrb ρ τ s ∧ wrb ρ τ s ≤ 8 := by
  unfold wrb fd
  have hn := h.nm
  cases hf : fn (fun k => ¬ td ρ τ (ρ (26 + 3 * k)) s (ρ (26 + 3 * k + 1)).toNat = ρ (26 + 3 * k + 2)) (ρ 6).toNat 0 with
  | none => exact ⟨by decide, by decide⟩
  | some j =>
    have := (fn_rg _ _ _ hf).1
    show -2 ≤ j ∧ j ≤ 8
    omega

/-- one more set: found, how many fit, some, every, how often each -/
def fst1 (ρ τ : Int → Int) (i : Int) (u : Int × Int × Int × Int × (Int → Int)) (s : Int) : Int × Int × Int × Int × (Int → Int) := if wrb ρ τ s = -2 then (if u.2.1 = i then s else u.1, u.2.1 + 1, ior u.2.2.1 s, iand u.2.2.2.1 s, fun k => if k < ρ 5 then u.2.2.2.2 k + (if hb s k then 1 else 0) else u.2.2.2.2 k) else u
def fst (ρ τ : Int → Int) (i e : Int) : Int × Int × Int × Int × (Int → Int) := itr (fst1 ρ τ i) (p2 (ρ 5)).toNat 0 (e, 0, 0, p2 (ρ 5) - 1, fun _ => 0)
theorem fst_many (ρ τ : Int → Int) (i : Int) : ∀ (d : Nat) (k : Int) (u : Int × Int × Int × Int × (Int → Int)), u.2.1 ≤ (itr (fst1 ρ τ i) d k u).2.1 ∧ (itr (fst1 ρ τ i) d k u).2.1 ≤ u.2.1 + d := by
  intro d
  induction d with
  | zero =>
    intro k u
    show u.2.1 ≤ u.2.1 ∧ u.2.1 ≤ u.2.1 + ((0 : Nat) : Int)
    omega
  | succ d ih =>
    intro k u
    have h := ih (k + 1) (fst1 ρ τ i u k)
    have h2 : (fst1 ρ τ i u k).2.1 = u.2.1 ∨ (fst1 ρ τ i u k).2.1 = u.2.1 + 1 := by
      unfold fst1
      split
      · exact Or.inr rfl
      · exact Or.inl rfl
    show u.2.1 ≤ (itr (fst1 ρ τ i) d (k + 1) (fst1 ρ τ i u k)).2.1 ∧ (itr (fst1 ρ τ i) d (k + 1) (fst1 ρ τ i u k)).2.1 ≤ u.2.1 + ((d + 1 : Nat) : Int)
    omega
theorem m_often (x : Nat) (F : Nat → Int) (P : Nat → Option Nat) (A : Nat → Int → Int) (f l : Nat → Int) (a : Nat → Int → Int) (b : fk_M) {s : Int} (hR : Rg (a 15) (a 17) (a 19)) (R : Int32 → Int32 → fk_M → Option (Int32 × fk_M)) (i e : Int32) : ∃ a', f_X2_seekSets_L116 R (some (x + 8)) i e (ii s) fk_fuel (ii 0) (hp x F P A f l a b) = R e (ii (s + 1)) (hp x F P A f l a' b) ∧ (∀ j, j ≠ 30 → a' j = a j) ∧ (∀ k, a' 30 k = if 0 ≤ k ∧ k < a 15 5 then a 30 k + (if hb s k then 1 else 0) else a 30 k) := by
  have hn := hR.nm
  have hL := loop_ex (fun N (_ : Unit) k (y : Nat → Int → Int) => f_X2_seekSets_L116 R (some (x + 8)) i e (ii s) N (ii k) (hp x F P A f l y b)) (fun u k => u) (fun u y => R e (ii (s + 1)) (hp x F P A f l y b)) (fun u k y => (∀ j, j ≠ 30 → y j = a j) ∧ (∀ t, y 30 t = if 0 ≤ t ∧ t < k then a 30 t + (if hb s t then 1 else 0) else a 30 t)) (lo := 0) (hi := a 15 5) ?_ ?_ (a 15 5).toNat fk_fuel () 0 a (by omega) (by omega) (by unfold fk_fuel; omega) ⟨fun _ _ => rfl, fun t => by rw [if_neg (by omega)]⟩
  · obtain ⟨a', e1, e2, e3⟩ := hL
    exact ⟨a', e1, e2, e3⟩
  · intro N u y hy
    have e5 := congrFun (hy.1 15 (by omega)) 5
    try dsimp only
    rw [f_X2_seekSets_L116]
    simp (disch := first | omega | assumption) only [Option.bind_some, bn2_some, ii_lit, ii_neg, ii_add, ii_sub, ii_mul, ii_le, ii_lt, ii_eq, ii_ite, ii_or, ii_and, ii_bit, ii_rem, ii_div, b0_, b1_, b2_, b3_, true_and, and_true, u1_eq, u1_ne, u2_eq, u2_nk, u2_ni, uP_eq, uP_ne, gk1, gk2, gk3, gk4, gk10, gk11, gk12, gk13, gk14, gk15, gk17, gkr0, gkr7, gkr8, gkr9, gkr16, gkr18, gkr19, gkr5, gkr6, ok0, ok1, ok2, ok3, gl2_0, gl2_1, gl2_2, gl3_0, gl3_1, gl3_2, gm0, gm2, gm3, gm4, gm5, gm6, gm7, gm8, gm9, gm10, gm11, gm13, gm14, gm22, gm23, gm26, gm27, gm28, gm29, gm31, gm32, gm33, gm36, gm37, gm39, gm40, gm41, gm1, gm12, gm15, gm16, gm17, gm18, gm19, gm20, gm21, gm24, gm25, gm30, gm34, gm35, gm38, rk0, sk0, rk9, sk9, rk16, sk16, rk18, sk18, rk19, sk19, rm1, sm1, rm12, sm12, rm15, sm15, rm16, sm16, rm17, sm17, rm18, sm18, rm19, sm19, rm20, sm20, rm21, sm21, rm24, sm24, rm25, sm25, rm30, sm30, rm34, sm34, rm35, sm35, rm38, sm38, pk1, pk2, pk3, pk4, pk10, pk11, pk12, pk13, pk14, pk15, pk17, pkr5, pkr6, pm0, pm2, pm3, pm4, pm5, pm6, pm7, pm8, pm9, pm10, pm11, pm13, pz13_0, pz13_1, pm14, pz14_0, pz14_1, pm22, pm23, pm26, pm27, pm28, pm29, pm31, pm32, pm33, pm36, pm37, pm39, pm40, pm41, pl2_0, pl2_1, pl2_2, pl3_0, pl3_1, pl3_2, e5, f_X2_seekSets_J149]
    rw [if_pos (by omega)]
  · intro N u k y k1 k2 hy
    have e5 := congrFun (hy.1 15 (by omega)) 5
    refine ⟨u2 y 30 k (y 30 k + (if hb s k then 1 else 0)), ⟨fun j hj => (u2_nk _ _ _ hj).trans (hy.1 j hj), fun t => ?_⟩, ?_⟩
    · by_cases ht : t = k
      · subst ht
        rw [u2_eq, hy.2 t, if_neg (show ¬ (0 ≤ t ∧ t < t) by omega), if_pos (show 0 ≤ t ∧ t < t + 1 by omega)]
      · rw [u2_ni _ _ _ ht, hy.2 t]
        by_cases hc : 0 ≤ t ∧ t < k
        · rw [if_pos hc, if_pos (show 0 ≤ t ∧ t < k + 1 by omega)]
        · rw [if_neg hc, if_neg (show ¬ (0 ≤ t ∧ t < k + 1) by omega)]
    · skip
      try dsimp only
      rw [f_X2_seekSets_L116]
      simp (disch := first | omega | assumption) only [Option.bind_some, bn2_some, ii_lit, ii_neg, ii_add, ii_sub, ii_mul, ii_le, ii_lt, ii_eq, ii_ite, ii_or, ii_and, ii_bit, ii_rem, ii_div, b0_, b1_, b2_, b3_, true_and, and_true, u1_eq, u1_ne, u2_eq, u2_nk, u2_ni, uP_eq, uP_ne, gk1, gk2, gk3, gk4, gk10, gk11, gk12, gk13, gk14, gk15, gk17, gkr0, gkr7, gkr8, gkr9, gkr16, gkr18, gkr19, gkr5, gkr6, ok0, ok1, ok2, ok3, gl2_0, gl2_1, gl2_2, gl3_0, gl3_1, gl3_2, gm0, gm2, gm3, gm4, gm5, gm6, gm7, gm8, gm9, gm10, gm11, gm13, gm14, gm22, gm23, gm26, gm27, gm28, gm29, gm31, gm32, gm33, gm36, gm37, gm39, gm40, gm41, gm1, gm12, gm15, gm16, gm17, gm18, gm19, gm20, gm21, gm24, gm25, gm30, gm34, gm35, gm38, rk0, sk0, rk9, sk9, rk16, sk16, rk18, sk18, rk19, sk19, rm1, sm1, rm12, sm12, rm15, sm15, rm16, sm16, rm17, sm17, rm18, sm18, rm19, sm19, rm20, sm20, rm21, sm21, rm24, sm24, rm25, sm25, rm30, sm30, rm34, sm34, rm35, sm35, rm38, sm38, pk1, pk2, pk3, pk4, pk10, pk11, pk12, pk13, pk14, pk15, pk17, pkr5, pkr6, pm0, pm2, pm3, pm4, pm5, pm6, pm7, pm8, pm9, pm10, pm11, pm13, pz13_0, pz13_1, pm14, pz14_0, pz14_1, pm22, pm23, pm26, pm27, pm28, pm29, pm31, pm32, pm33, pm36, pm37, pm39, pm40, pm41, pl2_0, pl2_1, pl2_2, pl3_0, pl3_1, pl3_2, e5]
      rw [if_neg (by omega)]
/-- the model's state behind a look at sets -/
def Us (a : Nat → Int → Int) (u : Int × Int × Int × Int × (Int → Int)) (f f' : Nat → Int) (a' : Nat → Int → Int) : Prop := f' 31 = u.2.1 ∧ f' 32 = u.2.2.1 ∧ f' 33 = u.2.2.2.1 ∧ (∀ k, k ≠ 31 → k ≠ 32 → k ≠ 33 → f' k = f k) ∧ (∀ j, j ≠ 30 → a' j = a j) ∧ (∀ k, 0 ≤ k → k < 4 → a' 30 k = u.2.2.2.2 k)
theorem m_seek48 (x : Nat) (F : Nat → Int) (P : Nat → Option Nat) (A : Nat → Int → Int) (f l : Nat → Int) (a : Nat → Int → Int) (b : fk_M) {i : Int} (hi : rg i) (hR : Rg (a 15) (a 17) (a 19)) (f0 : Nat → Int) (a0 : Nat → Int → Int) (hm : ∀ j, j ≠ 30 → a j = a0 j) (e : Int) (h0 : Us a0 (e, 0, 0, p2 (a0 15 5) - 1, fun _ => 0) f0 f a) (h15 : a 15 = a0 15) (h17 : a 17 = a0 17) : ∃ f' a', f_X2_seekSets_L48 (some (x + 8)) (ii i) fk_fuel (ii e) (ii 0) (hp x F P A f l a b) = some (ii (fst (a0 15) (a0 17) i e).1, hp x F P A f' l a' b) ∧ (f' 31 = (fst (a0 15) (a0 17) i e).2.1 ∧ f' 32 = (fst (a0 15) (a0 17) i e).2.2.1 ∧ f' 33 = (if (fst (a0 15) (a0 17) i e).2.1 = 0 then 0 else (fst (a0 15) (a0 17) i e).2.2.2.1)) ∧ (∀ k, k ≠ 31 → k ≠ 32 → k ≠ 33 → f' k = f0 k) ∧ (∀ j, j ≠ 30 → a' j = a0 j) ∧ (∀ k, 0 ≤ k → k < 4 → a' 30 k = (fst (a0 15) (a0 17) i e).2.2.2.2 k) := by
  have hn := hR.nm
  rw [h15] at hn
  have h19 : a 19 = a0 19 := hm 19 (by omega)
  have hR0 : Rg (a0 15) (a0 17) (a0 19) := by rw [← h15, ← h17, ← h19]; exact hR
  have hp2 := p2_rg (k := a0 15 5) (by omega) (by omega)
  have hL := loop_ex (fun N (u : Int × Int × Int × Int × (Int → Int)) k (y : (Nat → Int) × (Nat → Int → Int)) => f_X2_seekSets_L48 (some (x + 8)) (ii i) N (ii u.1) (ii k) (hp x F P A y.1 l y.2 b)) (fst1 (a0 15) (a0 17) i) (fun u y => some (ii u.1, hp x F P A (if u.2.1 = 0 then u1 y.1 33 0 else y.1) l y.2 b)) (fun u k y => (0 ≤ u.2.1 ∧ u.2.1 ≤ k) ∧ Us a0 u f0 y.1 y.2) (lo := 0) (hi := p2 (a0 15 5)) ?_ ?_ (p2 (a0 15 5)).toNat fk_fuel (e, 0, 0, p2 (a0 15 5) - 1, fun _ => 0) 0 (f, a) (by omega) (by omega) (by unfold fk_fuel; omega) ⟨⟨Int.le_refl 0, Int.le_refl 0⟩, h0⟩
  · obtain ⟨⟨f', a'⟩, e1, e2, e3⟩ := hL
    refine ⟨_, a', e1, ⟨?_, ?_, ?_⟩, ?_, e3.2.2.2.2.1, e3.2.2.2.2.2⟩
    · show (if (fst (a0 15) (a0 17) i e).2.1 = 0 then u1 f' 33 0 else f') 31 = _
      split
      · exact (u1_ne _ _ (by omega)).trans e3.1
      · exact e3.1
    · show (if (fst (a0 15) (a0 17) i e).2.1 = 0 then u1 f' 33 0 else f') 32 = _
      split
      · exact (u1_ne _ _ (by omega)).trans e3.2.1
      · exact e3.2.1
    · show (if (fst (a0 15) (a0 17) i e).2.1 = 0 then u1 f' 33 0 else f') 33 = _
      split
      · exact u1_eq ..
      · exact e3.2.2.1
    · intro k k1 k2 k3
      show (if (fst (a0 15) (a0 17) i e).2.1 = 0 then u1 f' 33 0 else f') k = _
      split
      · exact (u1_ne _ _ k3).trans (e3.2.2.2.1 k k1 k2 k3)
      · exact e3.2.2.2.1 k k1 k2 k3
  · rintro N u ⟨f', a'⟩ ⟨hu, hU⟩
    have e5 := congrFun (hU.2.2.2.2.1 15 (by omega)) 5
    try dsimp only at *
    rw [f_X2_seekSets_L48]
    simp (disch := first | omega | assumption) only [Option.bind_some, bn2_some, ii_lit, ii_neg, ii_add, ii_sub, ii_mul, ii_le, ii_lt, ii_eq, ii_ite, ii_or, ii_and, ii_bit, ii_rem, ii_div, b0_, b1_, b2_, b3_, true_and, and_true, u1_eq, u1_ne, u2_eq, u2_nk, u2_ni, uP_eq, uP_ne, gk1, gk2, gk3, gk4, gk10, gk11, gk12, gk13, gk14, gk15, gk17, gkr0, gkr7, gkr8, gkr9, gkr16, gkr18, gkr19, gkr5, gkr6, ok0, ok1, ok2, ok3, gl2_0, gl2_1, gl2_2, gl3_0, gl3_1, gl3_2, gm0, gm2, gm3, gm4, gm5, gm6, gm7, gm8, gm9, gm10, gm11, gm13, gm14, gm22, gm23, gm26, gm27, gm28, gm29, gm31, gm32, gm33, gm36, gm37, gm39, gm40, gm41, gm1, gm12, gm15, gm16, gm17, gm18, gm19, gm20, gm21, gm24, gm25, gm30, gm34, gm35, gm38, rk0, sk0, rk9, sk9, rk16, sk16, rk18, sk18, rk19, sk19, rm1, sm1, rm12, sm12, rm15, sm15, rm16, sm16, rm17, sm17, rm18, sm18, rm19, sm19, rm20, sm20, rm21, sm21, rm24, sm24, rm25, sm25, rm30, sm30, rm34, sm34, rm35, sm35, rm38, sm38, pk1, pk2, pk3, pk4, pk10, pk11, pk12, pk13, pk14, pk15, pk17, pkr5, pkr6, pm0, pm2, pm3, pm4, pm5, pm6, pm7, pm8, pm9, pm10, pm11, pm13, pz13_0, pz13_1, pm14, pz14_0, pz14_1, pm22, pm23, pm26, pm27, pm28, pm29, pm31, pm32, pm33, pm36, pm37, pm39, pm40, pm41, pl2_0, pl2_1, pl2_2, pl3_0, pl3_1, pl3_2, e5, ii_shl1, hU.1]
    rw [if_pos (by omega)]
    split <;> rfl
  · rintro N u k ⟨f', a'⟩ k1 k2 ⟨hu, hU⟩
    have e15 := hU.2.2.2.2.1 15 (by omega)
    have e17 := hU.2.2.2.2.1 17 (by omega)
    have e19 := hU.2.2.2.2.1 19 (by omega)
    have e5 := congrFun e15 5
    dsimp only at hu hU e15 e17 e19 e5
    have hR' : Rg (a' 15) (a' 17) (a' 19) := by rw [e15, e17, e19]; exact hR0
    have hwr := m_wrongBy x F P A f' l a' b (s := k) hR'
    rw [e15, e17] at hwr
    have hwg := wrb_rg hR0 k
    try dsimp only
    rw [f_X2_seekSets_L48]
    unfold fst1
    by_cases hc : wrb (a0 15) (a0 17) k = -2
    · obtain ⟨a2, o1, o2, o3⟩ := m_often x F P A (u1 (u1 (u1 f' 31 (u.2.1 + 1)) 32 (ior u.2.2.1 k)) 33 (iand u.2.2.2.1 k)) l a' b (s := k) hR' (f_X2_seekSets_L48 (some (x + 8)) (ii i) N) (ii i) (ii (if u.2.1 = i then k else u.1))
      refine ⟨(u1 (u1 (u1 f' 31 (u.2.1 + 1)) 32 (ior u.2.2.1 k)) 33 (iand u.2.2.2.1 k), a2), ?_, ?_⟩
      · rw [if_pos hc]
        refine ⟨⟨by show 0 ≤ u.2.1 + 1; omega, by show u.2.1 + 1 ≤ k + 1; omega⟩, ?_, ?_, ?_, ?_, ?_, ?_⟩
        · show u1 (u1 (u1 f' 31 (u.2.1 + 1)) 32 (ior u.2.2.1 k)) 33 (iand u.2.2.2.1 k) 31 = u.2.1 + 1
          exact (u1_ne _ _ (by omega)).trans ((u1_ne _ _ (by omega)).trans (u1_eq ..))
        · show u1 (u1 (u1 f' 31 (u.2.1 + 1)) 32 (ior u.2.2.1 k)) 33 (iand u.2.2.2.1 k) 32 = ior u.2.2.1 k
          exact (u1_ne _ _ (by omega)).trans (u1_eq ..)
        · show u1 (u1 (u1 f' 31 (u.2.1 + 1)) 32 (ior u.2.2.1 k)) 33 (iand u.2.2.2.1 k) 33 = iand u.2.2.2.1 k
          exact u1_eq ..
        · intro t t1 t2 t3
          exact (u1_ne _ _ t3).trans ((u1_ne _ _ t2).trans ((u1_ne _ _ t1).trans (hU.2.2.2.1 t t1 t2 t3)))
        · intro j hj
          exact (o2 j hj).trans (hU.2.2.2.2.1 j hj)
        · intro t t1 t2
          show a2 30 t = (if t < a0 15 5 then u.2.2.2.2 t + (if hb k t then 1 else 0) else u.2.2.2.2 t)
          rw [o3 t, e5, hU.2.2.2.2.2 t t1 t2]
          by_cases ht : t < a0 15 5
          · rw [if_pos ⟨t1, ht⟩, if_pos ht]
          · rw [if_neg (fun h => ht h.2), if_neg ht]
      · rw [if_pos hc]
        simp (disch := first | omega | assumption) only [Option.bind_some, bn2_some, ii_lit, ii_neg, ii_add, ii_sub, ii_mul, ii_le, ii_lt, ii_eq, ii_ite, ii_or, ii_and, ii_bit, ii_rem, ii_div, b0_, b1_, b2_, b3_, true_and, and_true, u1_eq, u1_ne, u2_eq, u2_nk, u2_ni, uP_eq, uP_ne, gk1, gk2, gk3, gk4, gk10, gk11, gk12, gk13, gk14, gk15, gk17, gkr0, gkr7, gkr8, gkr9, gkr16, gkr18, gkr19, gkr5, gkr6, ok0, ok1, ok2, ok3, gl2_0, gl2_1, gl2_2, gl3_0, gl3_1, gl3_2, gm0, gm2, gm3, gm4, gm5, gm6, gm7, gm8, gm9, gm10, gm11, gm13, gm14, gm22, gm23, gm26, gm27, gm28, gm29, gm31, gm32, gm33, gm36, gm37, gm39, gm40, gm41, gm1, gm12, gm15, gm16, gm17, gm18, gm19, gm20, gm21, gm24, gm25, gm30, gm34, gm35, gm38, rk0, sk0, rk9, sk9, rk16, sk16, rk18, sk18, rk19, sk19, rm1, sm1, rm12, sm12, rm15, sm15, rm16, sm16, rm17, sm17, rm18, sm18, rm19, sm19, rm20, sm20, rm21, sm21, rm24, sm24, rm25, sm25, rm30, sm30, rm34, sm34, rm35, sm35, rm38, sm38, pk1, pk2, pk3, pk4, pk10, pk11, pk12, pk13, pk14, pk15, pk17, pkr5, pkr6, pm0, pm2, pm3, pm4, pm5, pm6, pm7, pm8, pm9, pm10, pm11, pm13, pz13_0, pz13_1, pm14, pz14_0, pz14_1, pm22, pm23, pm26, pm27, pm28, pm29, pm31, pm32, pm33, pm36, pm37, pm39, pm40, pm41, pl2_0, pl2_1, pl2_2, pl3_0, pl3_1, pl3_2, e5, ii_shl1, hU.1, hU.2.1, hU.2.2.1, hwr, hc]
        rw [if_neg (by omega), if_true]
        refine Eq.trans ?_ o1
        rfl
    · refine ⟨(f', a'), ?_, ?_⟩
      · rw [if_neg hc]
        exact ⟨⟨hu.1, by omega⟩, hU⟩
      · rw [if_neg hc]
        simp (disch := first | omega | assumption) only [Option.bind_some, bn2_some, ii_lit, ii_neg, ii_add, ii_sub, ii_mul, ii_le, ii_lt, ii_eq, ii_ite, ii_or, ii_and, ii_bit, ii_rem, ii_div, b0_, b1_, b2_, b3_, true_and, and_true, u1_eq, u1_ne, u2_eq, u2_nk, u2_ni, uP_eq, uP_ne, gk1, gk2, gk3, gk4, gk10, gk11, gk12, gk13, gk14, gk15, gk17, gkr0, gkr7, gkr8, gkr9, gkr16, gkr18, gkr19, gkr5, gkr6, ok0, ok1, ok2, ok3, gl2_0, gl2_1, gl2_2, gl3_0, gl3_1, gl3_2, gm0, gm2, gm3, gm4, gm5, gm6, gm7, gm8, gm9, gm10, gm11, gm13, gm14, gm22, gm23, gm26, gm27, gm28, gm29, gm31, gm32, gm33, gm36, gm37, gm39, gm40, gm41, gm1, gm12, gm15, gm16, gm17, gm18, gm19, gm20, gm21, gm24, gm25, gm30, gm34, gm35, gm38, rk0, sk0, rk9, sk9, rk16, sk16, rk18, sk18, rk19, sk19, rm1, sm1, rm12, sm12, rm15, sm15, rm16, sm16, rm17, sm17, rm18, sm18, rm19, sm19, rm20, sm20, rm21, sm21, rm24, sm24, rm25, sm25, rm30, sm30, rm34, sm34, rm35, sm35, rm38, sm38, pk1, pk2, pk3, pk4, pk10, pk11, pk12, pk13, pk14, pk15, pk17, pkr5, pkr6, pm0, pm2, pm3, pm4, pm5, pm6, pm7, pm8, pm9, pm10, pm11, pm13, pz13_0, pz13_1, pm14, pz14_0, pz14_1, pm22, pm23, pm26, pm27, pm28, pm29, pm31, pm32, pm33, pm36, pm37, pm39, pm40, pm41, pl2_0, pl2_1, pl2_2, pl3_0, pl3_1, pl3_2, e5, ii_shl1, hU.1, hwr, hc, f_X2_seekSets_J149, if_false]
        rw [if_neg (by omega)]
theorem m_seekSets (x : Nat) (F : Nat → Int) (P : Nat → Option Nat) (A : Nat → Int → Int) (f l : Nat → Int) (a : Nat → Int → Int) (b : fk_M) {i : Int} (hi : rg i) (hR : Rg (a 15) (a 17) (a 19)) : ∃ f' a', f_X2_seekSets (some (x + 8)) (ii i) (hp x F P A f l a b) = some (ii (fst (a 15) (a 17) i (-1)).1, hp x F P A f' l a' b) ∧ (f' 31 = (fst (a 15) (a 17) i (-1)).2.1 ∧ f' 32 = (fst (a 15) (a 17) i (-1)).2.2.1 ∧ f' 33 = (if (fst (a 15) (a 17) i (-1)).2.1 = 0 then 0 else (fst (a 15) (a 17) i (-1)).2.2.2.1)) ∧ (∀ k, k ≠ 31 → k ≠ 32 → k ≠ 33 → f' k = f k) ∧ (∀ j, j ≠ 30 → a' j = a j) ∧ (∀ k, 0 ≤ k → k < 4 → a' 30 k = (fst (a 15) (a 17) i (-1)).2.2.2.2 k) := by
  have hn := hR.nm
  have hp2 := p2_rg (k := a 15 5) (by omega) (by omega)
  unfold f_X2_seekSets
  have hL := loop_ex (fun N (_ : Unit) k (y : Nat → Int → Int) => f_X2_seekSets_L28 (some (x + 8)) (ii i) (ii (-1)) N (ii k) (hp x F P A (u1 (u1 (u1 f 31 0) 32 0) 33 (p2 (a 15 5) - 1)) l y b)) (fun u k => u) (fun u y => f_X2_seekSets_L48 (some (x + 8)) (ii i) fk_fuel (ii (-1)) (ii 0) (hp x F P A (u1 (u1 (u1 f 31 0) 32 0) 33 (p2 (a 15 5) - 1)) l y b)) (fun u k y => (∀ j, j ≠ 30 → y j = a j) ∧ (∀ t, 0 ≤ t → t < k → y 30 t = 0)) (lo := 0) (hi := 4) ?_ ?_ 4 fk_fuel () 0 a (by omega) (by omega) (by unfold fk_fuel; omega) ⟨fun _ _ => rfl, fun t h1 h2 => by omega⟩
  · obtain ⟨a1, e1, e2, e3⟩ := hL
    have e15 := e2 15 (by omega)
    have e17 := e2 17 (by omega)
    have e19 := e2 19 (by omega)
    obtain ⟨f', a', g1, g2, g3, g4, g5⟩ := m_seek48 x F P A (u1 (u1 (u1 f 31 0) 32 0) 33 (p2 (a 15 5) - 1)) l a1 b hi (by rw [e15, e17, e19]; exact hR) f a e2 (-1) ⟨(u1_ne _ _ (by omega)).trans ((u1_ne _ _ (by omega)).trans (u1_eq ..)), (u1_ne _ _ (by omega)).trans (u1_eq ..), u1_eq .., fun k h1 h2 h3 => (u1_ne _ _ h3).trans ((u1_ne _ _ h2).trans (u1_ne _ _ h1)), e2, fun k h1 h2 => e3 k h1 h2⟩ e15 e17
    refine ⟨f', a', ?_, g2, g3, g4, g5⟩
    simp (disch := first | omega | assumption) only [Option.bind_some, bn2_some, ii_lit, ii_neg, ii_add, ii_sub, ii_mul, ii_le, ii_lt, ii_eq, ii_ite, ii_or, ii_and, ii_bit, ii_rem, ii_div, b0_, b1_, b2_, b3_, true_and, and_true, u1_eq, u1_ne, u2_eq, u2_nk, u2_ni, uP_eq, uP_ne, gk1, gk2, gk3, gk4, gk10, gk11, gk12, gk13, gk14, gk15, gk17, gkr0, gkr7, gkr8, gkr9, gkr16, gkr18, gkr19, gkr5, gkr6, ok0, ok1, ok2, ok3, gl2_0, gl2_1, gl2_2, gl3_0, gl3_1, gl3_2, gm0, gm2, gm3, gm4, gm5, gm6, gm7, gm8, gm9, gm10, gm11, gm13, gm14, gm22, gm23, gm26, gm27, gm28, gm29, gm31, gm32, gm33, gm36, gm37, gm39, gm40, gm41, gm1, gm12, gm15, gm16, gm17, gm18, gm19, gm20, gm21, gm24, gm25, gm30, gm34, gm35, gm38, rk0, sk0, rk9, sk9, rk16, sk16, rk18, sk18, rk19, sk19, rm1, sm1, rm12, sm12, rm15, sm15, rm16, sm16, rm17, sm17, rm18, sm18, rm19, sm19, rm20, sm20, rm21, sm21, rm24, sm24, rm25, sm25, rm30, sm30, rm34, sm34, rm35, sm35, rm38, sm38, pk1, pk2, pk3, pk4, pk10, pk11, pk12, pk13, pk14, pk15, pk17, pkr5, pkr6, pm0, pm2, pm3, pm4, pm5, pm6, pm7, pm8, pm9, pm10, pm11, pm13, pz13_0, pz13_1, pm14, pz14_0, pz14_1, pm22, pm23, pm26, pm27, pm28, pm29, pm31, pm32, pm33, pm36, pm37, pm39, pm40, pm41, pl2_0, pl2_1, pl2_2, pl3_0, pl3_1, pl3_2, ii_shl1]
    exact e1.trans g1
  · intro N u y hy
    try dsimp only
    rw [f_X2_seekSets_L28]
    simp (disch := first | omega | assumption) only [Option.bind_some, bn2_some, ii_lit, ii_neg, ii_add, ii_sub, ii_mul, ii_le, ii_lt, ii_eq, ii_ite, ii_or, ii_and, ii_bit, ii_rem, ii_div, b0_, b1_, b2_, b3_, true_and, and_true, u1_eq, u1_ne, u2_eq, u2_nk, u2_ni, uP_eq, uP_ne, gk1, gk2, gk3, gk4, gk10, gk11, gk12, gk13, gk14, gk15, gk17, gkr0, gkr7, gkr8, gkr9, gkr16, gkr18, gkr19, gkr5, gkr6, ok0, ok1, ok2, ok3, gl2_0, gl2_1, gl2_2, gl3_0, gl3_1, gl3_2, gm0, gm2, gm3, gm4, gm5, gm6, gm7, gm8, gm9, gm10, gm11, gm13, gm14, gm22, gm23, gm26, gm27, gm28, gm29, gm31, gm32, gm33, gm36, gm37, gm39, gm40, gm41, gm1, gm12, gm15, gm16, gm17, gm18, gm19, gm20, gm21, gm24, gm25, gm30, gm34, gm35, gm38, rk0, sk0, rk9, sk9, rk16, sk16, rk18, sk18, rk19, sk19, rm1, sm1, rm12, sm12, rm15, sm15, rm16, sm16, rm17, sm17, rm18, sm18, rm19, sm19, rm20, sm20, rm21, sm21, rm24, sm24, rm25, sm25, rm30, sm30, rm34, sm34, rm35, sm35, rm38, sm38, pk1, pk2, pk3, pk4, pk10, pk11, pk12, pk13, pk14, pk15, pk17, pkr5, pkr6, pm0, pm2, pm3, pm4, pm5, pm6, pm7, pm8, pm9, pm10, pm11, pm13, pz13_0, pz13_1, pm14, pz14_0, pz14_1, pm22, pm23, pm26, pm27, pm28, pm29, pm31, pm32, pm33, pm36, pm37, pm39, pm40, pm41, pl2_0, pl2_1, pl2_2, pl3_0, pl3_1, pl3_2]
    rw [if_pos (by omega)]
  · intro N u k y k1 k2 hy
    refine ⟨u2 y 30 k 0, ⟨fun j hj => (u2_nk _ _ _ hj).trans (hy.1 j hj), fun t h1 h2 => ?_⟩, ?_⟩
    · by_cases ht : t = k
      · rw [ht, u2_eq]
      · rw [u2_ni _ _ _ ht]
        exact hy.2 t h1 (by omega)
    · skip
      try dsimp only
      rw [f_X2_seekSets_L28]
      simp (disch := first | omega | assumption) only [Option.bind_some, bn2_some, ii_lit, ii_neg, ii_add, ii_sub, ii_mul, ii_le, ii_lt, ii_eq, ii_ite, ii_or, ii_and, ii_bit, ii_rem, ii_div, b0_, b1_, b2_, b3_, true_and, and_true, u1_eq, u1_ne, u2_eq, u2_nk, u2_ni, uP_eq, uP_ne, gk1, gk2, gk3, gk4, gk10, gk11, gk12, gk13, gk14, gk15, gk17, gkr0, gkr7, gkr8, gkr9, gkr16, gkr18, gkr19, gkr5, gkr6, ok0, ok1, ok2, ok3, gl2_0, gl2_1, gl2_2, gl3_0, gl3_1, gl3_2, gm0, gm2, gm3, gm4, gm5, gm6, gm7, gm8, gm9, gm10, gm11, gm13, gm14, gm22, gm23, gm26, gm27, gm28, gm29, gm31, gm32, gm33, gm36, gm37, gm39, gm40, gm41, gm1, gm12, gm15, gm16, gm17, gm18, gm19, gm20, gm21, gm24, gm25, gm30, gm34, gm35, gm38, rk0, sk0, rk9, sk9, rk16, sk16, rk18, sk18, rk19, sk19, rm1, sm1, rm12, sm12, rm15, sm15, rm16, sm16, rm17, sm17, rm18, sm18, rm19, sm19, rm20, sm20, rm21, sm21, rm24, sm24, rm25, sm25, rm30, sm30, rm34, sm34, rm35, sm35, rm38, sm38, pk1, pk2, pk3, pk4, pk10, pk11, pk12, pk13, pk14, pk15, pk17, pkr5, pkr6, pm0, pm2, pm3, pm4, pm5, pm6, pm7, pm8, pm9, pm10, pm11, pm13, pz13_0, pz13_1, pm14, pz14_0, pz14_1, pm22, pm23, pm26, pm27, pm28, pm29, pm31, pm32, pm33, pm36, pm37, pm39, pm40, pm41, pl2_0, pl2_1, pl2_2, pl3_0, pl3_1, pl3_2]
      rw [if_neg (by omega)]
theorem mk.us {f f' : Nat → Int} (h : ∀ k, k ≠ 31 → k ≠ 32 → k ≠ 33 → f' k = f k) : mk f f' := ⟨h 2 (by omega) (by omega) (by omega), h 9 (by omega) (by omega) (by omega), h 10 (by omega) (by omega) (by omega), h 14 (by omega) (by omega) (by omega), h 22 (by omega) (by omega) (by omega), h 23 (by omega) (by omega) (by omega)⟩
theorem ma.k {a a' : Nat → Int → Int} (k : Nat) (hk : k ≠ 1 ∧ k ≠ 15 ∧ k ≠ 17 ∧ k ≠ 19 ∧ k ≠ 20 ∧ k ≠ 21) (h : ∀ j, j ≠ k → a' j = a j) : ma a a' := ⟨h 1 (by omega), h 15 (by omega), h 17 (by omega), h 19 (by omega), h 20 (by omega), h 21 (by omega)⟩
def s_fits (h : Int) (ρ τ σ : Int → Int) : Int := if h = 1 then (fst ρ τ (-1) (-1)).2.1 else -1
def s_could (h : Int) (ρ τ σ : Int → Int) : Int := if h = 1 then (fst ρ τ (-1) (-1)).2.2.1 else -1
def s_surely (h : Int) (ρ τ σ : Int → Int) : Int := if h = 1 then (if (fst ρ τ (-1) (-1)).2.1 = 0 then 0 else (fst ρ τ (-1) (-1)).2.2.2.1) else -1
def s_judge (h : Int) (ρ τ σ : Int → Int) : Int := if h = 1 then wrb ρ τ 0 else -1
theorem m_fits (x : Nat) (F : Nat → Int) (P : Nat → Option Nat) (A : Nat → Int → Int) (f l : Nat → Int) (a : Nat → Int → Int) (b : fk_M) (hM : Hm f a) : MO x F P A f l a b (s_fits (f 14) (a 15) (a 17) (a 19)) (if f 14 = 1 then 0 else 1) (f_X2_fits (some (x + 8)) (hp x F P A f l a b)) := by
  unfold f_X2_fits s_fits
  rw [ok1, Option.bind_some, m_good, Option.bind_some, gm14, Option.bind_some]
  have e14 : fo f 0 14 = f 14 := rfl
  rw [e14]
  rcases hM with h | ⟨h, hR⟩
  · rw [h, if_pos (show ii 0 = 0 by decide), if_neg (by decide), if_neg (by decide)]
    simp (disch := first | omega | assumption) only [Option.bind_some, bn2_some, ii_lit, ii_neg, ii_add, ii_sub, ii_mul, ii_le, ii_lt, ii_eq, ii_ite, ii_or, ii_and, ii_bit, ii_rem, ii_div, b0_, b1_, b2_, b3_, true_and, and_true, u1_eq, u1_ne, u2_eq, u2_nk, u2_ni, uP_eq, uP_ne, gk1, gk2, gk3, gk4, gk10, gk11, gk12, gk13, gk14, gk15, gk17, gkr0, gkr7, gkr8, gkr9, gkr16, gkr18, gkr19, gkr5, gkr6, ok0, ok1, ok2, ok3, gl2_0, gl2_1, gl2_2, gl3_0, gl3_1, gl3_2, gm0, gm2, gm3, gm4, gm5, gm6, gm7, gm8, gm9, gm10, gm11, gm13, gm14, gm22, gm23, gm26, gm27, gm28, gm29, gm31, gm32, gm33, gm36, gm37, gm39, gm40, gm41, gm1, gm12, gm15, gm16, gm17, gm18, gm19, gm20, gm21, gm24, gm25, gm30, gm34, gm35, gm38, rk0, sk0, rk9, sk9, rk16, sk16, rk18, sk18, rk19, sk19, rm1, sm1, rm12, sm12, rm15, sm15, rm16, sm16, rm17, sm17, rm18, sm18, rm19, sm19, rm20, sm20, rm21, sm21, rm24, sm24, rm25, sm25, rm30, sm30, rm34, sm34, rm35, sm35, rm38, sm38, pk1, pk2, pk3, pk4, pk10, pk11, pk12, pk13, pk14, pk15, pk17, pkr5, pkr6, pm0, pm2, pm3, pm4, pm5, pm6, pm7, pm8, pm9, pm10, pm11, pm13, pz13_0, pz13_1, pm14, pz14_0, pz14_1, pm22, pm23, pm26, pm27, pm28, pm29, pm31, pm32, pm33, pm36, pm37, pm39, pm40, pm41, pl2_0, pl2_1, pl2_2, pl3_0, pl3_1, pl3_2, m_no, u1_u1]
    exact MO.ref ..
  rw [h, if_neg (show ¬ ii 1 = 0 by decide), if_pos rfl, if_pos rfl]
  have hw := hR.wd
  obtain ⟨f', a', e1, e2, e3, e4, e5⟩ := m_seekSets x F P A (fo f 0) l a b (i := -1) (by omega) hR
  refine MO.mk f' l a' ?_ ((e3 0 (by omega) (by omega) (by omega)).trans ((u1_ne _ _ (by omega)).trans (u1_eq ..))) ((e3 11 (by omega) (by omega) (by omega)).trans (u1_eq ..)) ((mk.o f 0).tr (mk.us e3)) (ma.k 30 (by omega) e4)
  simp (disch := first | omega | assumption) only [Option.bind_some, bn2_some, ii_lit, ii_neg, ii_add, ii_sub, ii_mul, ii_le, ii_lt, ii_eq, ii_ite, ii_or, ii_and, ii_bit, ii_rem, ii_div, b0_, b1_, b2_, b3_, true_and, and_true, u1_eq, u1_ne, u2_eq, u2_nk, u2_ni, uP_eq, uP_ne, gk1, gk2, gk3, gk4, gk10, gk11, gk12, gk13, gk14, gk15, gk17, gkr0, gkr7, gkr8, gkr9, gkr16, gkr18, gkr19, gkr5, gkr6, ok0, ok1, ok2, ok3, gl2_0, gl2_1, gl2_2, gl3_0, gl3_1, gl3_2, gm0, gm2, gm3, gm4, gm5, gm6, gm7, gm8, gm9, gm10, gm11, gm13, gm14, gm22, gm23, gm26, gm27, gm28, gm29, gm31, gm32, gm33, gm36, gm37, gm39, gm40, gm41, gm1, gm12, gm15, gm16, gm17, gm18, gm19, gm20, gm21, gm24, gm25, gm30, gm34, gm35, gm38, rk0, sk0, rk9, sk9, rk16, sk16, rk18, sk18, rk19, sk19, rm1, sm1, rm12, sm12, rm15, sm15, rm16, sm16, rm17, sm17, rm18, sm18, rm19, sm19, rm20, sm20, rm21, sm21, rm24, sm24, rm25, sm25, rm30, sm30, rm34, sm34, rm35, sm35, rm38, sm38, pk1, pk2, pk3, pk4, pk10, pk11, pk12, pk13, pk14, pk15, pk17, pkr5, pkr6, pm0, pm2, pm3, pm4, pm5, pm6, pm7, pm8, pm9, pm10, pm11, pm13, pz13_0, pz13_1, pm14, pz14_0, pz14_1, pm22, pm23, pm26, pm27, pm28, pm29, pm31, pm32, pm33, pm36, pm37, pm39, pm40, pm41, pl2_0, pl2_1, pl2_2, pl3_0, pl3_1, pl3_2, e1, e2.1]
theorem m_could (x : Nat) (F : Nat → Int) (P : Nat → Option Nat) (A : Nat → Int → Int) (f l : Nat → Int) (a : Nat → Int → Int) (b : fk_M) (hM : Hm f a) : MO x F P A f l a b (s_could (f 14) (a 15) (a 17) (a 19)) (if f 14 = 1 then 0 else 1) (f_X2_could (some (x + 8)) (hp x F P A f l a b)) := by
  unfold f_X2_could s_could
  rw [ok1, Option.bind_some, m_good, Option.bind_some, gm14, Option.bind_some]
  have e14 : fo f 0 14 = f 14 := rfl
  rw [e14]
  rcases hM with h | ⟨h, hR⟩
  · rw [h, if_pos (show ii 0 = 0 by decide), if_neg (by decide), if_neg (by decide)]
    simp (disch := first | omega | assumption) only [Option.bind_some, bn2_some, ii_lit, ii_neg, ii_add, ii_sub, ii_mul, ii_le, ii_lt, ii_eq, ii_ite, ii_or, ii_and, ii_bit, ii_rem, ii_div, b0_, b1_, b2_, b3_, true_and, and_true, u1_eq, u1_ne, u2_eq, u2_nk, u2_ni, uP_eq, uP_ne, gk1, gk2, gk3, gk4, gk10, gk11, gk12, gk13, gk14, gk15, gk17, gkr0, gkr7, gkr8, gkr9, gkr16, gkr18, gkr19, gkr5, gkr6, ok0, ok1, ok2, ok3, gl2_0, gl2_1, gl2_2, gl3_0, gl3_1, gl3_2, gm0, gm2, gm3, gm4, gm5, gm6, gm7, gm8, gm9, gm10, gm11, gm13, gm14, gm22, gm23, gm26, gm27, gm28, gm29, gm31, gm32, gm33, gm36, gm37, gm39, gm40, gm41, gm1, gm12, gm15, gm16, gm17, gm18, gm19, gm20, gm21, gm24, gm25, gm30, gm34, gm35, gm38, rk0, sk0, rk9, sk9, rk16, sk16, rk18, sk18, rk19, sk19, rm1, sm1, rm12, sm12, rm15, sm15, rm16, sm16, rm17, sm17, rm18, sm18, rm19, sm19, rm20, sm20, rm21, sm21, rm24, sm24, rm25, sm25, rm30, sm30, rm34, sm34, rm35, sm35, rm38, sm38, pk1, pk2, pk3, pk4, pk10, pk11, pk12, pk13, pk14, pk15, pk17, pkr5, pkr6, pm0, pm2, pm3, pm4, pm5, pm6, pm7, pm8, pm9, pm10, pm11, pm13, pz13_0, pz13_1, pm14, pz14_0, pz14_1, pm22, pm23, pm26, pm27, pm28, pm29, pm31, pm32, pm33, pm36, pm37, pm39, pm40, pm41, pl2_0, pl2_1, pl2_2, pl3_0, pl3_1, pl3_2, m_no, u1_u1]
    exact MO.ref ..
  rw [h, if_neg (show ¬ ii 1 = 0 by decide), if_pos rfl, if_pos rfl]
  have hw := hR.wd
  obtain ⟨f', a', e1, e2, e3, e4, e5⟩ := m_seekSets x F P A (fo f 0) l a b (i := -1) (by omega) hR
  refine MO.mk f' l a' ?_ ((e3 0 (by omega) (by omega) (by omega)).trans ((u1_ne _ _ (by omega)).trans (u1_eq ..))) ((e3 11 (by omega) (by omega) (by omega)).trans (u1_eq ..)) ((mk.o f 0).tr (mk.us e3)) (ma.k 30 (by omega) e4)
  simp (disch := first | omega | assumption) only [Option.bind_some, bn2_some, ii_lit, ii_neg, ii_add, ii_sub, ii_mul, ii_le, ii_lt, ii_eq, ii_ite, ii_or, ii_and, ii_bit, ii_rem, ii_div, b0_, b1_, b2_, b3_, true_and, and_true, u1_eq, u1_ne, u2_eq, u2_nk, u2_ni, uP_eq, uP_ne, gk1, gk2, gk3, gk4, gk10, gk11, gk12, gk13, gk14, gk15, gk17, gkr0, gkr7, gkr8, gkr9, gkr16, gkr18, gkr19, gkr5, gkr6, ok0, ok1, ok2, ok3, gl2_0, gl2_1, gl2_2, gl3_0, gl3_1, gl3_2, gm0, gm2, gm3, gm4, gm5, gm6, gm7, gm8, gm9, gm10, gm11, gm13, gm14, gm22, gm23, gm26, gm27, gm28, gm29, gm31, gm32, gm33, gm36, gm37, gm39, gm40, gm41, gm1, gm12, gm15, gm16, gm17, gm18, gm19, gm20, gm21, gm24, gm25, gm30, gm34, gm35, gm38, rk0, sk0, rk9, sk9, rk16, sk16, rk18, sk18, rk19, sk19, rm1, sm1, rm12, sm12, rm15, sm15, rm16, sm16, rm17, sm17, rm18, sm18, rm19, sm19, rm20, sm20, rm21, sm21, rm24, sm24, rm25, sm25, rm30, sm30, rm34, sm34, rm35, sm35, rm38, sm38, pk1, pk2, pk3, pk4, pk10, pk11, pk12, pk13, pk14, pk15, pk17, pkr5, pkr6, pm0, pm2, pm3, pm4, pm5, pm6, pm7, pm8, pm9, pm10, pm11, pm13, pz13_0, pz13_1, pm14, pz14_0, pz14_1, pm22, pm23, pm26, pm27, pm28, pm29, pm31, pm32, pm33, pm36, pm37, pm39, pm40, pm41, pl2_0, pl2_1, pl2_2, pl3_0, pl3_1, pl3_2, e1, e2.2.1]
theorem m_surely (x : Nat) (F : Nat → Int) (P : Nat → Option Nat) (A : Nat → Int → Int) (f l : Nat → Int) (a : Nat → Int → Int) (b : fk_M) (hM : Hm f a) : MO x F P A f l a b (s_surely (f 14) (a 15) (a 17) (a 19)) (if f 14 = 1 then 0 else 1) (f_X2_surely (some (x + 8)) (hp x F P A f l a b)) := by
  unfold f_X2_surely s_surely
  rw [ok1, Option.bind_some, m_good, Option.bind_some, gm14, Option.bind_some]
  have e14 : fo f 0 14 = f 14 := rfl
  rw [e14]
  rcases hM with h | ⟨h, hR⟩
  · rw [h, if_pos (show ii 0 = 0 by decide), if_neg (by decide), if_neg (by decide)]
    simp (disch := first | omega | assumption) only [Option.bind_some, bn2_some, ii_lit, ii_neg, ii_add, ii_sub, ii_mul, ii_le, ii_lt, ii_eq, ii_ite, ii_or, ii_and, ii_bit, ii_rem, ii_div, b0_, b1_, b2_, b3_, true_and, and_true, u1_eq, u1_ne, u2_eq, u2_nk, u2_ni, uP_eq, uP_ne, gk1, gk2, gk3, gk4, gk10, gk11, gk12, gk13, gk14, gk15, gk17, gkr0, gkr7, gkr8, gkr9, gkr16, gkr18, gkr19, gkr5, gkr6, ok0, ok1, ok2, ok3, gl2_0, gl2_1, gl2_2, gl3_0, gl3_1, gl3_2, gm0, gm2, gm3, gm4, gm5, gm6, gm7, gm8, gm9, gm10, gm11, gm13, gm14, gm22, gm23, gm26, gm27, gm28, gm29, gm31, gm32, gm33, gm36, gm37, gm39, gm40, gm41, gm1, gm12, gm15, gm16, gm17, gm18, gm19, gm20, gm21, gm24, gm25, gm30, gm34, gm35, gm38, rk0, sk0, rk9, sk9, rk16, sk16, rk18, sk18, rk19, sk19, rm1, sm1, rm12, sm12, rm15, sm15, rm16, sm16, rm17, sm17, rm18, sm18, rm19, sm19, rm20, sm20, rm21, sm21, rm24, sm24, rm25, sm25, rm30, sm30, rm34, sm34, rm35, sm35, rm38, sm38, pk1, pk2, pk3, pk4, pk10, pk11, pk12, pk13, pk14, pk15, pk17, pkr5, pkr6, pm0, pm2, pm3, pm4, pm5, pm6, pm7, pm8, pm9, pm10, pm11, pm13, pz13_0, pz13_1, pm14, pz14_0, pz14_1, pm22, pm23, pm26, pm27, pm28, pm29, pm31, pm32, pm33, pm36, pm37, pm39, pm40, pm41, pl2_0, pl2_1, pl2_2, pl3_0, pl3_1, pl3_2, m_no, u1_u1]
    exact MO.ref ..
  rw [h, if_neg (show ¬ ii 1 = 0 by decide), if_pos rfl, if_pos rfl]
  have hw := hR.wd
  obtain ⟨f', a', e1, e2, e3, e4, e5⟩ := m_seekSets x F P A (fo f 0) l a b (i := -1) (by omega) hR
  refine MO.mk f' l a' ?_ ((e3 0 (by omega) (by omega) (by omega)).trans ((u1_ne _ _ (by omega)).trans (u1_eq ..))) ((e3 11 (by omega) (by omega) (by omega)).trans (u1_eq ..)) ((mk.o f 0).tr (mk.us e3)) (ma.k 30 (by omega) e4)
  simp (disch := first | omega | assumption) only [Option.bind_some, bn2_some, ii_lit, ii_neg, ii_add, ii_sub, ii_mul, ii_le, ii_lt, ii_eq, ii_ite, ii_or, ii_and, ii_bit, ii_rem, ii_div, b0_, b1_, b2_, b3_, true_and, and_true, u1_eq, u1_ne, u2_eq, u2_nk, u2_ni, uP_eq, uP_ne, gk1, gk2, gk3, gk4, gk10, gk11, gk12, gk13, gk14, gk15, gk17, gkr0, gkr7, gkr8, gkr9, gkr16, gkr18, gkr19, gkr5, gkr6, ok0, ok1, ok2, ok3, gl2_0, gl2_1, gl2_2, gl3_0, gl3_1, gl3_2, gm0, gm2, gm3, gm4, gm5, gm6, gm7, gm8, gm9, gm10, gm11, gm13, gm14, gm22, gm23, gm26, gm27, gm28, gm29, gm31, gm32, gm33, gm36, gm37, gm39, gm40, gm41, gm1, gm12, gm15, gm16, gm17, gm18, gm19, gm20, gm21, gm24, gm25, gm30, gm34, gm35, gm38, rk0, sk0, rk9, sk9, rk16, sk16, rk18, sk18, rk19, sk19, rm1, sm1, rm12, sm12, rm15, sm15, rm16, sm16, rm17, sm17, rm18, sm18, rm19, sm19, rm20, sm20, rm21, sm21, rm24, sm24, rm25, sm25, rm30, sm30, rm34, sm34, rm35, sm35, rm38, sm38, pk1, pk2, pk3, pk4, pk10, pk11, pk12, pk13, pk14, pk15, pk17, pkr5, pkr6, pm0, pm2, pm3, pm4, pm5, pm6, pm7, pm8, pm9, pm10, pm11, pm13, pz13_0, pz13_1, pm14, pz14_0, pz14_1, pm22, pm23, pm26, pm27, pm28, pm29, pm31, pm32, pm33, pm36, pm37, pm39, pm40, pm41, pl2_0, pl2_1, pl2_2, pl3_0, pl3_1, pl3_2, e1, e2.2.2]
theorem m_judge (x : Nat) (F : Nat → Int) (P : Nat → Option Nat) (A : Nat → Int → Int) (f l : Nat → Int) (a : Nat → Int → Int) (b : fk_M) (hM : Hm f a) : MO x F P A f l a b (s_judge (f 14) (a 15) (a 17) (a 19)) (if f 14 = 1 then 0 else 1) (f_X2_judge (some (x + 8)) (hp x F P A f l a b)) := by
  unfold f_X2_judge s_judge
  rw [ok1, Option.bind_some, m_good, Option.bind_some, gm14, Option.bind_some]
  have e14 : fo f 0 14 = f 14 := rfl
  rw [e14]
  rcases hM with h | ⟨h, hR⟩
  · rw [h, if_pos (show ii 0 = 0 by decide), if_neg (by decide), if_neg (by decide)]
    simp (disch := first | omega | assumption) only [Option.bind_some, bn2_some, ii_lit, ii_neg, ii_add, ii_sub, ii_mul, ii_le, ii_lt, ii_eq, ii_ite, ii_or, ii_and, ii_bit, ii_rem, ii_div, b0_, b1_, b2_, b3_, true_and, and_true, u1_eq, u1_ne, u2_eq, u2_nk, u2_ni, uP_eq, uP_ne, gk1, gk2, gk3, gk4, gk10, gk11, gk12, gk13, gk14, gk15, gk17, gkr0, gkr7, gkr8, gkr9, gkr16, gkr18, gkr19, gkr5, gkr6, ok0, ok1, ok2, ok3, gl2_0, gl2_1, gl2_2, gl3_0, gl3_1, gl3_2, gm0, gm2, gm3, gm4, gm5, gm6, gm7, gm8, gm9, gm10, gm11, gm13, gm14, gm22, gm23, gm26, gm27, gm28, gm29, gm31, gm32, gm33, gm36, gm37, gm39, gm40, gm41, gm1, gm12, gm15, gm16, gm17, gm18, gm19, gm20, gm21, gm24, gm25, gm30, gm34, gm35, gm38, rk0, sk0, rk9, sk9, rk16, sk16, rk18, sk18, rk19, sk19, rm1, sm1, rm12, sm12, rm15, sm15, rm16, sm16, rm17, sm17, rm18, sm18, rm19, sm19, rm20, sm20, rm21, sm21, rm24, sm24, rm25, sm25, rm30, sm30, rm34, sm34, rm35, sm35, rm38, sm38, pk1, pk2, pk3, pk4, pk10, pk11, pk12, pk13, pk14, pk15, pk17, pkr5, pkr6, pm0, pm2, pm3, pm4, pm5, pm6, pm7, pm8, pm9, pm10, pm11, pm13, pz13_0, pz13_1, pm14, pz14_0, pz14_1, pm22, pm23, pm26, pm27, pm28, pm29, pm31, pm32, pm33, pm36, pm37, pm39, pm40, pm41, pl2_0, pl2_1, pl2_2, pl3_0, pl3_1, pl3_2, m_no, u1_u1]
    exact MO.ref ..
  rw [h, if_neg (show ¬ ii 1 = 0 by decide), if_pos rfl, if_pos rfl]
  have hw := hR.wd
  refine MO.of ?_
  have e1 := m_wrongBy x F P A (fo f 0) l a b (s := 0) hR
  simp (disch := first | omega | assumption) only [Option.bind_some, bn2_some, ii_lit, ii_neg, ii_add, ii_sub, ii_mul, ii_le, ii_lt, ii_eq, ii_ite, ii_or, ii_and, ii_bit, ii_rem, ii_div, b0_, b1_, b2_, b3_, true_and, and_true, u1_eq, u1_ne, u2_eq, u2_nk, u2_ni, uP_eq, uP_ne, gk1, gk2, gk3, gk4, gk10, gk11, gk12, gk13, gk14, gk15, gk17, gkr0, gkr7, gkr8, gkr9, gkr16, gkr18, gkr19, gkr5, gkr6, ok0, ok1, ok2, ok3, gl2_0, gl2_1, gl2_2, gl3_0, gl3_1, gl3_2, gm0, gm2, gm3, gm4, gm5, gm6, gm7, gm8, gm9, gm10, gm11, gm13, gm14, gm22, gm23, gm26, gm27, gm28, gm29, gm31, gm32, gm33, gm36, gm37, gm39, gm40, gm41, gm1, gm12, gm15, gm16, gm17, gm18, gm19, gm20, gm21, gm24, gm25, gm30, gm34, gm35, gm38, rk0, sk0, rk9, sk9, rk16, sk16, rk18, sk18, rk19, sk19, rm1, sm1, rm12, sm12, rm15, sm15, rm16, sm16, rm17, sm17, rm18, sm18, rm19, sm19, rm20, sm20, rm21, sm21, rm24, sm24, rm25, sm25, rm30, sm30, rm34, sm34, rm35, sm35, rm38, sm38, pk1, pk2, pk3, pk4, pk10, pk11, pk12, pk13, pk14, pk15, pk17, pkr5, pkr6, pm0, pm2, pm3, pm4, pm5, pm6, pm7, pm8, pm9, pm10, pm11, pm13, pz13_0, pz13_1, pm14, pz14_0, pz14_1, pm22, pm23, pm26, pm27, pm28, pm29, pm31, pm32, pm33, pm36, pm37, pm39, pm40, pm41, pl2_0, pl2_1, pl2_2, pl3_0, pl3_1, pl3_2, e1]
def s_fitAt (h : Int) (ρ τ σ : Int → Int) (i : Int) : Int := if h = 1 ∧ 0 ≤ i ∧ 0 ≤ (fst ρ τ i (-1)).1 then (fst ρ τ i (-1)).1 else -1
theorem fst_rel (ρ τ : Int → Int) (i : Int) : ∀ (d : Nat) (k : Int) (u v : Int × Int × Int × Int × (Int → Int)), 0 ≤ k → u.2 = v.2 → (itr (fst1 ρ τ i) d k u).2 = (itr (fst1 ρ τ i) d k v).2 ∧ (((itr (fst1 ρ τ i) d k u).1 = u.1 ∧ (itr (fst1 ρ τ i) d k v).1 = v.1) ∨ ((itr (fst1 ρ τ i) d k u).1 = (itr (fst1 ρ τ i) d k v).1 ∧ 0 ≤ (itr (fst1 ρ τ i) d k u).1 ∧ (itr (fst1 ρ τ i) d k u).1 < k + d)) := by
  intro d
  induction d with
  | zero => intro k u v _ h; exact ⟨h, Or.inl ⟨rfl, rfl⟩⟩
  | succ d ih =>
    intro k u v hk h
    have h2 : (fst1 ρ τ i u k).2 = (fst1 ρ τ i v k).2 := by
      unfold fst1
      split
      · show (u.2.1 + 1, ior u.2.2.1 k, iand u.2.2.2.1 k, _) = (v.2.1 + 1, ior v.2.2.1 k, iand v.2.2.2.1 k, _)
        rw [h]
      · exact h
    have h3 : ((fst1 ρ τ i u k).1 = u.1 ∧ (fst1 ρ τ i v k).1 = v.1) ∨ ((fst1 ρ τ i u k).1 = k ∧ (fst1 ρ τ i v k).1 = k) := by
      unfold fst1
      split
      · show ((if u.2.1 = i then k else u.1) = u.1 ∧ (if v.2.1 = i then k else v.1) = v.1) ∨ ((if u.2.1 = i then k else u.1) = k ∧ (if v.2.1 = i then k else v.1) = k)
        rw [h]
        split
        · exact Or.inr ⟨rfl, rfl⟩
        · exact Or.inl ⟨rfl, rfl⟩
      · exact Or.inl ⟨rfl, rfl⟩
    obtain ⟨h4, h5⟩ := ih (k + 1) (fst1 ρ τ i u k) (fst1 ρ τ i v k) (by omega) h2
    refine ⟨h4, ?_⟩
    show ((itr (fst1 ρ τ i) d (k + 1) (fst1 ρ τ i u k)).1 = u.1 ∧ (itr (fst1 ρ τ i) d (k + 1) (fst1 ρ τ i v k)).1 = v.1) ∨ ((itr (fst1 ρ τ i) d (k + 1) (fst1 ρ τ i u k)).1 = (itr (fst1 ρ τ i) d (k + 1) (fst1 ρ τ i v k)).1 ∧ 0 ≤ (itr (fst1 ρ τ i) d (k + 1) (fst1 ρ τ i u k)).1 ∧ (itr (fst1 ρ τ i) d (k + 1) (fst1 ρ τ i u k)).1 < k + ((d + 1 : Nat) : Int))
    rcases h5 with ⟨e1, e2⟩ | ⟨e1, e2, e3⟩
    · rw [e1, e2]
      rcases h3 with ⟨e3, e4⟩ | ⟨e3, e4⟩
      · exact Or.inl ⟨e3, e4⟩
      · rw [e3, e4]
        exact Or.inr ⟨rfl, hk, by omega⟩
    · exact Or.inr ⟨e1, e2, by omega⟩
theorem fst_12 {ρ τ σ : Int → Int} (hR : Rg ρ τ σ) (i e : Int) (he : e < 0) : (fst ρ τ i e).2 = (fst ρ τ i (-1)).2 ∧ (((fst ρ τ i e).1 = e ∧ (fst ρ τ i (-1)).1 = -1) ∨ ((fst ρ τ i e).1 = (fst ρ τ i (-1)).1 ∧ 0 ≤ (fst ρ τ i e).1 ∧ (fst ρ τ i e).1 ≤ 32)) := by
  have hn := hR.nm
  have hp2 := p2_rg (k := ρ 5) (by omega) (by omega)
  obtain ⟨h1, h2⟩ := fst_rel ρ τ i (p2 (ρ 5)).toNat 0 (e, 0, 0, p2 (ρ 5) - 1, fun _ => 0) (-1, 0, 0, p2 (ρ 5) - 1, fun _ => 0) (by omega) rfl
  refine ⟨h1, ?_⟩
  rcases h2 with h2 | ⟨h2, h3, h4⟩
  · exact Or.inl h2
  · refine Or.inr ⟨h2, h3, ?_⟩
    have : (fst ρ τ i e).1 < 0 + ((p2 (ρ 5)).toNat : Int) := h4
    omega
theorem fst_rg {ρ τ σ : Int → Int} (hR : Rg ρ τ σ) (i : Int) : (-1 ≤ (fst ρ τ i (-1)).1 ∧ (fst ρ τ i (-1)).1 ≤ 32) ∧ (0 ≤ (fst ρ τ i (-1)).2.1 ∧ (fst ρ τ i (-1)).2.1 ≤ 32) := by
  have hn := hR.nm
  have hp2 := p2_rg (k := ρ 5) (by omega) (by omega)
  have h := (fst_12 hR i (-1) (by omega)).2
  have h2 := fst_many ρ τ i (p2 (ρ 5)).toNat 0 (-1, 0, 0, p2 (ρ 5) - 1, fun _ => 0)
  have h3 : 0 ≤ (fst ρ τ i (-1)).2.1 := h2.1
  have h4 : (fst ρ τ i (-1)).2.1 ≤ 0 + ((p2 (ρ 5)).toNat : Int) := h2.2
  omega
theorem m_fitAt (x : Nat) (F : Nat → Int) (P : Nat → Option Nat) (A : Nat → Int → Int) (f l : Nat → Int) (a : Nat → Int → Int) (b : fk_M) {i : Int} (hi : rg i) (hM : Hm f a) : MO x F P A f l a b (s_fitAt (f 14) (a 15) (a 17) (a 19) i) (if f 14 = 1 ∧ 0 ≤ i ∧ 0 ≤ (fst (a 15) (a 17) i (-1)).1 then 0 else 1) (f_X2_fitAt (some (x + 8)) (ii i) (hp x F P A f l a b)) := by
  unfold f_X2_fitAt s_fitAt
  rw [ok1, Option.bind_some, m_good, Option.bind_some, gm14, Option.bind_some]
  have e14 : fo f 0 14 = f 14 := rfl
  have hj : f_X2_fitAt_J15 (some (x + 8)) (hp x F P A (fo f 0) l a b) = some (ii (-1), hp x F P A (fo f 1) l a b) := by
    unfold f_X2_fitAt_J15
    simp (disch := first | omega | assumption) only [Option.bind_some, bn2_some, ii_lit, ii_neg, ii_add, ii_sub, ii_mul, ii_le, ii_lt, ii_eq, ii_ite, ii_or, ii_and, ii_bit, ii_rem, ii_div, b0_, b1_, b2_, b3_, true_and, and_true, u1_eq, u1_ne, u2_eq, u2_nk, u2_ni, uP_eq, uP_ne, gk1, gk2, gk3, gk4, gk10, gk11, gk12, gk13, gk14, gk15, gk17, gkr0, gkr7, gkr8, gkr9, gkr16, gkr18, gkr19, gkr5, gkr6, ok0, ok1, ok2, ok3, gl2_0, gl2_1, gl2_2, gl3_0, gl3_1, gl3_2, gm0, gm2, gm3, gm4, gm5, gm6, gm7, gm8, gm9, gm10, gm11, gm13, gm14, gm22, gm23, gm26, gm27, gm28, gm29, gm31, gm32, gm33, gm36, gm37, gm39, gm40, gm41, gm1, gm12, gm15, gm16, gm17, gm18, gm19, gm20, gm21, gm24, gm25, gm30, gm34, gm35, gm38, rk0, sk0, rk9, sk9, rk16, sk16, rk18, sk18, rk19, sk19, rm1, sm1, rm12, sm12, rm15, sm15, rm16, sm16, rm17, sm17, rm18, sm18, rm19, sm19, rm20, sm20, rm21, sm21, rm24, sm24, rm25, sm25, rm30, sm30, rm34, sm34, rm35, sm35, rm38, sm38, pk1, pk2, pk3, pk4, pk10, pk11, pk12, pk13, pk14, pk15, pk17, pkr5, pkr6, pm0, pm2, pm3, pm4, pm5, pm6, pm7, pm8, pm9, pm10, pm11, pm13, pz13_0, pz13_1, pm14, pz14_0, pz14_1, pm22, pm23, pm26, pm27, pm28, pm29, pm31, pm32, pm33, pm36, pm37, pm39, pm40, pm41, pl2_0, pl2_1, pl2_2, pl3_0, pl3_1, pl3_2, m_no, u1_u1]
  rw [e14, hj]
  rcases hM with h | ⟨h, hR⟩
  · rw [h, if_pos (show ii 0 = 0 by decide), if_neg (fun h => by omega), if_neg (fun h => by omega)]
    exact MO.ref ..
  rw [h, if_neg (show ¬ ii 1 = 0 by decide)]
  by_cases h0 : 0 ≤ i
  rotate_left
  · rw [if_neg (show ¬ (0 : Int32) ≤ ii i by rw [show (0 : Int32) = ii 0 from rfl, ii_le (by omega) hi]; exact h0), if_neg (fun h => h0 h.2.1), if_neg (fun h => h0 h.2.1)]
    exact MO.ref ..
  rw [if_pos (show (0 : Int32) ≤ ii i by rw [show (0 : Int32) = ii 0 from rfl, ii_le (by omega) hi]; exact h0)]
  obtain ⟨f', a', e1, e2, e3, e4, e5⟩ := m_seekSets x F P A (fo f 0) l a b (i := i) hi hR
  have hr := (fst_rg hR i).1
  by_cases hc : 0 ≤ (fst (a 15) (a 17) i (-1)).1
  · rw [if_pos ⟨rfl, h0, hc⟩, if_pos ⟨rfl, h0, hc⟩]
    refine MO.mk f' l a' ?_ ((e3 0 (by omega) (by omega) (by omega)).trans ((u1_ne _ _ (by omega)).trans (u1_eq ..))) ((e3 11 (by omega) (by omega) (by omega)).trans (u1_eq ..)) ((mk.o f 0).tr (mk.us e3)) (ma.k 30 (by omega) e4)
    simp (disch := first | omega | assumption) only [Option.bind_some, bn2_some, ii_lit, ii_neg, ii_add, ii_sub, ii_mul, ii_le, ii_lt, ii_eq, ii_ite, ii_or, ii_and, ii_bit, ii_rem, ii_div, b0_, b1_, b2_, b3_, true_and, and_true, u1_eq, u1_ne, u2_eq, u2_nk, u2_ni, uP_eq, uP_ne, gk1, gk2, gk3, gk4, gk10, gk11, gk12, gk13, gk14, gk15, gk17, gkr0, gkr7, gkr8, gkr9, gkr16, gkr18, gkr19, gkr5, gkr6, ok0, ok1, ok2, ok3, gl2_0, gl2_1, gl2_2, gl3_0, gl3_1, gl3_2, gm0, gm2, gm3, gm4, gm5, gm6, gm7, gm8, gm9, gm10, gm11, gm13, gm14, gm22, gm23, gm26, gm27, gm28, gm29, gm31, gm32, gm33, gm36, gm37, gm39, gm40, gm41, gm1, gm12, gm15, gm16, gm17, gm18, gm19, gm20, gm21, gm24, gm25, gm30, gm34, gm35, gm38, rk0, sk0, rk9, sk9, rk16, sk16, rk18, sk18, rk19, sk19, rm1, sm1, rm12, sm12, rm15, sm15, rm16, sm16, rm17, sm17, rm18, sm18, rm19, sm19, rm20, sm20, rm21, sm21, rm24, sm24, rm25, sm25, rm30, sm30, rm34, sm34, rm35, sm35, rm38, sm38, pk1, pk2, pk3, pk4, pk10, pk11, pk12, pk13, pk14, pk15, pk17, pkr5, pkr6, pm0, pm2, pm3, pm4, pm5, pm6, pm7, pm8, pm9, pm10, pm11, pm13, pz13_0, pz13_1, pm14, pz14_0, pz14_1, pm22, pm23, pm26, pm27, pm28, pm29, pm31, pm32, pm33, pm36, pm37, pm39, pm40, pm41, pl2_0, pl2_1, pl2_2, pl3_0, pl3_1, pl3_2, e1]
    rw [if_pos hc]
  · rw [if_neg (fun h => hc h.2.2), if_neg (fun h => hc h.2.2)]
    refine ⟨u1 f' 11 1, l, a', ?_, (u1_ne _ _ (by omega)).trans ((e3 0 (by omega) (by omega) (by omega)).trans ((u1_ne _ _ (by omega)).trans (u1_eq ..))), u1_eq .., ((mk.o f 0).tr (mk.us e3)).tr (mk.u _ 11 1 (by omega)), ma.k 30 (by omega) e4⟩
    simp (disch := first | omega | assumption) only [Option.bind_some, bn2_some, ii_lit, ii_neg, ii_add, ii_sub, ii_mul, ii_le, ii_lt, ii_eq, ii_ite, ii_or, ii_and, ii_bit, ii_rem, ii_div, b0_, b1_, b2_, b3_, true_and, and_true, u1_eq, u1_ne, u2_eq, u2_nk, u2_ni, uP_eq, uP_ne, gk1, gk2, gk3, gk4, gk10, gk11, gk12, gk13, gk14, gk15, gk17, gkr0, gkr7, gkr8, gkr9, gkr16, gkr18, gkr19, gkr5, gkr6, ok0, ok1, ok2, ok3, gl2_0, gl2_1, gl2_2, gl3_0, gl3_1, gl3_2, gm0, gm2, gm3, gm4, gm5, gm6, gm7, gm8, gm9, gm10, gm11, gm13, gm14, gm22, gm23, gm26, gm27, gm28, gm29, gm31, gm32, gm33, gm36, gm37, gm39, gm40, gm41, gm1, gm12, gm15, gm16, gm17, gm18, gm19, gm20, gm21, gm24, gm25, gm30, gm34, gm35, gm38, rk0, sk0, rk9, sk9, rk16, sk16, rk18, sk18, rk19, sk19, rm1, sm1, rm12, sm12, rm15, sm15, rm16, sm16, rm17, sm17, rm18, sm18, rm19, sm19, rm20, sm20, rm21, sm21, rm24, sm24, rm25, sm25, rm30, sm30, rm34, sm34, rm35, sm35, rm38, sm38, pk1, pk2, pk3, pk4, pk10, pk11, pk12, pk13, pk14, pk15, pk17, pkr5, pkr6, pm0, pm2, pm3, pm4, pm5, pm6, pm7, pm8, pm9, pm10, pm11, pm13, pz13_0, pz13_1, pm14, pz14_0, pz14_1, pm22, pm23, pm26, pm27, pm28, pm29, pm31, pm32, pm33, pm36, pm37, pm39, pm40, pm41, pl2_0, pl2_1, pl2_2, pl3_0, pl3_1, pl3_2, e1, m_no]
    rw [if_neg hc]
/-- asking: what is left at most -/
def lvs (u : Int × Int × Int × Int × (Int → Int)) (k : Int) : Int := if u.2.2.2.2 k ≤ u.2.1 - u.2.2.2.2 k then u.2.1 - u.2.2.2.2 k else u.2.2.2.2 k
def ak (u : Int × Int × Int × Int × (Int → Int)) (b k : Int) : Int := if b < 0 then k else if lvs u b ≤ lvs u k then b else k
def aks (ρ τ : Int → Int) : Int := if 0 < (fst ρ τ (-1) (-1)).2.1 then itr (ak (fst ρ τ (-1) (-1))) (ρ 5).toNat 0 (-2) else -2
def s_ask (h : Int) (ρ τ σ : Int → Int) : Int := if h = 1 then aks ρ τ else -1
def s_askLeaves (h : Int) (ρ τ σ : Int → Int) : Int := if h = 1 then (if aks ρ τ < 0 then -2 else lvs (fst ρ τ (-1) (-1)) (aks ρ τ)) else -1
theorem fst_oft {ρ τ : Int → Int} (i : Int) : ∀ (d : Nat) (k : Int) (u : Int × Int × Int × Int × (Int → Int)), (∀ t, 0 ≤ u.2.2.2.2 t ∧ u.2.2.2.2 t ≤ u.2.1) → ∀ t, 0 ≤ (itr (fst1 ρ τ i) d k u).2.2.2.2 t ∧ (itr (fst1 ρ τ i) d k u).2.2.2.2 t ≤ (itr (fst1 ρ τ i) d k u).2.1 := by
  intro d
  induction d with
  | zero => intro k u h t; exact h t
  | succ d ih =>
    intro k u h
    refine ih (k + 1) (fst1 ρ τ i u k) (fun t => ?_)
    have ht := h t
    unfold fst1
    split
    · show 0 ≤ (if t < ρ 5 then u.2.2.2.2 t + (if hb k t then 1 else 0) else u.2.2.2.2 t) ∧ (if t < ρ 5 then u.2.2.2.2 t + (if hb k t then 1 else 0) else u.2.2.2.2 t) ≤ u.2.1 + 1
      split
      · split <;> omega
      · omega
    · exact ht
theorem oft_rg {ρ τ σ : Int → Int} (hR : Rg ρ τ σ) (t : Int) : 0 ≤ (fst ρ τ (-1) (-1)).2.2.2.2 t ∧ (fst ρ τ (-1) (-1)).2.2.2.2 t ≤ (fst ρ τ (-1) (-1)).2.1 := fst_oft (-1) _ 0 _ (fun t => ⟨Int.le_refl 0, Int.le_refl 0⟩) t
theorem m_leaves (x : Nat) (F : Nat → Int) (P : Nat → Option Nat) (A : Nat → Int → Int) (f l : Nat → Int) (a : Nat → Int → Int) (b : fk_M) {k : Int} (hR : Rg (a 15) (a 17) (a 19)) (h0 : 0 ≤ k) (h1 : k < 4) (e31 : f 31 = (fst (a 15) (a 17) (-1) (-1)).2.1) (e30 : ∀ k, 0 ≤ k → k < 4 → a 30 k = (fst (a 15) (a 17) (-1) (-1)).2.2.2.2 k) : f_X2_leavesOf (some (x + 8)) (ii k) (hp x F P A f l a b) = some (ii (lvs (fst (a 15) (a 17) (-1) (-1)) k)) := by
  have hr := (fst_rg hR (-1)).2
  have ho := oft_rg hR k
  have e := e30 k h0 h1
  unfold f_X2_leavesOf lvs
  simp (disch := first | omega | assumption) only [Option.bind_some, bn2_some, ii_lit, ii_neg, ii_add, ii_sub, ii_mul, ii_le, ii_lt, ii_eq, ii_ite, ii_or, ii_and, ii_bit, ii_rem, ii_div, b0_, b1_, b2_, b3_, true_and, and_true, u1_eq, u1_ne, u2_eq, u2_nk, u2_ni, uP_eq, uP_ne, gk1, gk2, gk3, gk4, gk10, gk11, gk12, gk13, gk14, gk15, gk17, gkr0, gkr7, gkr8, gkr9, gkr16, gkr18, gkr19, gkr5, gkr6, ok0, ok1, ok2, ok3, gl2_0, gl2_1, gl2_2, gl3_0, gl3_1, gl3_2, gm0, gm2, gm3, gm4, gm5, gm6, gm7, gm8, gm9, gm10, gm11, gm13, gm14, gm22, gm23, gm26, gm27, gm28, gm29, gm31, gm32, gm33, gm36, gm37, gm39, gm40, gm41, gm1, gm12, gm15, gm16, gm17, gm18, gm19, gm20, gm21, gm24, gm25, gm30, gm34, gm35, gm38, rk0, sk0, rk9, sk9, rk16, sk16, rk18, sk18, rk19, sk19, rm1, sm1, rm12, sm12, rm15, sm15, rm16, sm16, rm17, sm17, rm18, sm18, rm19, sm19, rm20, sm20, rm21, sm21, rm24, sm24, rm25, sm25, rm30, sm30, rm34, sm34, rm35, sm35, rm38, sm38, pk1, pk2, pk3, pk4, pk10, pk11, pk12, pk13, pk14, pk15, pk17, pkr5, pkr6, pm0, pm2, pm3, pm4, pm5, pm6, pm7, pm8, pm9, pm10, pm11, pm13, pz13_0, pz13_1, pm14, pz14_0, pz14_1, pm22, pm23, pm26, pm27, pm28, pm29, pm31, pm32, pm33, pm36, pm37, pm39, pm40, pm41, pl2_0, pl2_1, pl2_2, pl3_0, pl3_1, pl3_2, e31, e]
  split <;> rfl
theorem lvs_rg {ρ τ σ : Int → Int} (hR : Rg ρ τ σ) (k : Int) : 0 ≤ lvs (fst ρ τ (-1) (-1)) k ∧ lvs (fst ρ τ (-1) (-1)) k ≤ 32 := by
  have hr := (fst_rg hR (-1)).2
  have ho := oft_rg hR k
  unfold lvs
  split <;> omega
theorem ak_rg (u : Int × Int × Int × Int × (Int → Int)) {n : Nat} : (n = 0 → itr (ak u) n 0 (-2) = -2) ∧ (0 < n → 0 ≤ itr (ak u) n 0 (-2) ∧ itr (ak u) n 0 (-2) < n) := by
  constructor
  · rintro rfl; rfl
  · intro hn
    obtain ⟨d, rfl⟩ : ∃ d, n = d + 1 := ⟨n - 1, by omega⟩
    show 0 ≤ itr (ak u) d (0 + 1) (ak u (-2) 0) ∧ itr (ak u) d (0 + 1) (ak u (-2) 0) < ((d + 1 : Nat) : Int)
    have h0 : ak u (-2) 0 = 0 := if_pos (by omega)
    rw [h0]
    refine itr_iv (s := ak u) (fun b => 0 ≤ b ∧ b < ((d + 1 : Nat) : Int)) (lo := 1) (hi := d + 1) (fun b k h1 h2 h3 => ?_) d (0 + 1) 0 (by omega) (by omega) ⟨by omega, by omega⟩
    unfold ak
    rw [if_neg (by omega)]
    split
    · exact h3
    · exact ⟨by omega, by omega⟩
theorem m_askOf (x : Nat) (F : Nat → Int) (P : Nat → Option Nat) (A : Nat → Int → Int) (f l : Nat → Int) (a : Nat → Int → Int) (b : fk_M) (hR : Rg (a 15) (a 17) (a 19)) : ∃ f' a', f_X2_askOf (some (x + 8)) (hp x F P A f l a b) = some (ii (aks (a 15) (a 17)), hp x F P A f' l a' b) ∧ f' 31 = (fst (a 15) (a 17) (-1) (-1)).2.1 ∧ (∀ k, k ≠ 31 → k ≠ 32 → k ≠ 33 → f' k = f k) ∧ (∀ j, j ≠ 30 → a' j = a j) ∧ (∀ k, 0 ≤ k → k < 4 → a' 30 k = (fst (a 15) (a 17) (-1) (-1)).2.2.2.2 k) := by
  have hn := hR.nm
  have hr := (fst_rg hR (-1)).2
  obtain ⟨f', a', e1, e2, e3, e4, e5⟩ := m_seekSets x F P A f l a b (i := -1) (by omega) hR
  have e15 := e4 15 (by omega)
  have e17 := e4 17 (by omega)
  have e19 := e4 19 (by omega)
  have hR' : Rg (a' 15) (a' 17) (a' 19) := by rw [e15, e17, e19]; exact hR
  refine ⟨f', a', ?_, e2.1, e3, e4, e5⟩
  unfold f_X2_askOf aks
  have e6 : ((a' 15 5) : Int) = a 15 5 := congrFun e15 5
  have e7 : f' 31 = (fst (a' 15) (a' 17) (-1) (-1)).2.1 := by rw [e15, e17]; exact e2.1
  have e8 : ∀ k, 0 ≤ k → k < 4 → a' 30 k = (fst (a' 15) (a' 17) (-1) (-1)).2.2.2.2 k := by rw [e15, e17]; exact e5
  simp (disch := first | omega | assumption) only [Option.bind_some, bn2_some, ii_lit, ii_neg, ii_add, ii_sub, ii_mul, ii_le, ii_lt, ii_eq, ii_ite, ii_or, ii_and, ii_bit, ii_rem, ii_div, b0_, b1_, b2_, b3_, true_and, and_true, u1_eq, u1_ne, u2_eq, u2_nk, u2_ni, uP_eq, uP_ne, gk1, gk2, gk3, gk4, gk10, gk11, gk12, gk13, gk14, gk15, gk17, gkr0, gkr7, gkr8, gkr9, gkr16, gkr18, gkr19, gkr5, gkr6, ok0, ok1, ok2, ok3, gl2_0, gl2_1, gl2_2, gl3_0, gl3_1, gl3_2, gm0, gm2, gm3, gm4, gm5, gm6, gm7, gm8, gm9, gm10, gm11, gm13, gm14, gm22, gm23, gm26, gm27, gm28, gm29, gm31, gm32, gm33, gm36, gm37, gm39, gm40, gm41, gm1, gm12, gm15, gm16, gm17, gm18, gm19, gm20, gm21, gm24, gm25, gm30, gm34, gm35, gm38, rk0, sk0, rk9, sk9, rk16, sk16, rk18, sk18, rk19, sk19, rm1, sm1, rm12, sm12, rm15, sm15, rm16, sm16, rm17, sm17, rm18, sm18, rm19, sm19, rm20, sm20, rm21, sm21, rm24, sm24, rm25, sm25, rm30, sm30, rm34, sm34, rm35, sm35, rm38, sm38, pk1, pk2, pk3, pk4, pk10, pk11, pk12, pk13, pk14, pk15, pk17, pkr5, pkr6, pm0, pm2, pm3, pm4, pm5, pm6, pm7, pm8, pm9, pm10, pm11, pm13, pz13_0, pz13_1, pm14, pz14_0, pz14_1, pm22, pm23, pm26, pm27, pm28, pm29, pm31, pm32, pm33, pm36, pm37, pm39, pm40, pm41, pl2_0, pl2_1, pl2_2, pl3_0, pl3_1, pl3_2, e1]
  by_cases h0 : 0 < (fst (a 15) (a 17) (-1) (-1)).2.1
  · rw [if_pos h0]
    have hL := loop_it (fun N u k => f_X2_askOf_L11 (some (x + 8)) (hp x F P A f' l a' b) N (ii u) (ii k)) (ak (fst (a 15) (a 17) (-1) (-1))) (fun u => some (ii u, hp x F P A f' l a' b)) (fun u k => (u = -2 ∧ k = 0) ∨ (0 ≤ u ∧ u < k)) (lo := 0) (hi := a 15 5) ?_ ?_ (a 15 5).toNat fk_fuel (-2) 0 (by omega) (by omega) (by unfold fk_fuel; omega) (by omega)
    · exact hL.1
    · intro N u hu
      try dsimp only
      rw [f_X2_askOf_L11]
      simp (disch := first | omega | assumption) only [Option.bind_some, bn2_some, ii_lit, ii_neg, ii_add, ii_sub, ii_mul, ii_le, ii_lt, ii_eq, ii_ite, ii_or, ii_and, ii_bit, ii_rem, ii_div, b0_, b1_, b2_, b3_, true_and, and_true, u1_eq, u1_ne, u2_eq, u2_nk, u2_ni, uP_eq, uP_ne, gk1, gk2, gk3, gk4, gk10, gk11, gk12, gk13, gk14, gk15, gk17, gkr0, gkr7, gkr8, gkr9, gkr16, gkr18, gkr19, gkr5, gkr6, ok0, ok1, ok2, ok3, gl2_0, gl2_1, gl2_2, gl3_0, gl3_1, gl3_2, gm0, gm2, gm3, gm4, gm5, gm6, gm7, gm8, gm9, gm10, gm11, gm13, gm14, gm22, gm23, gm26, gm27, gm28, gm29, gm31, gm32, gm33, gm36, gm37, gm39, gm40, gm41, gm1, gm12, gm15, gm16, gm17, gm18, gm19, gm20, gm21, gm24, gm25, gm30, gm34, gm35, gm38, rk0, sk0, rk9, sk9, rk16, sk16, rk18, sk18, rk19, sk19, rm1, sm1, rm12, sm12, rm15, sm15, rm16, sm16, rm17, sm17, rm18, sm18, rm19, sm19, rm20, sm20, rm21, sm21, rm24, sm24, rm25, sm25, rm30, sm30, rm34, sm34, rm35, sm35, rm38, sm38, pk1, pk2, pk3, pk4, pk10, pk11, pk12, pk13, pk14, pk15, pk17, pkr5, pkr6, pm0, pm2, pm3, pm4, pm5, pm6, pm7, pm8, pm9, pm10, pm11, pm13, pz13_0, pz13_1, pm14, pz14_0, pz14_1, pm22, pm23, pm26, pm27, pm28, pm29, pm31, pm32, pm33, pm36, pm37, pm39, pm40, pm41, pl2_0, pl2_1, pl2_2, pl3_0, pl3_1, pl3_2, e6]
      rw [if_pos (by omega)]
    · intro N u k k1 k2 hu
      refine ⟨by unfold ak; (repeat' split) <;> omega, ?_⟩
      try dsimp only
      rw [f_X2_askOf_L11]
      unfold ak
      by_cases hu0 : u < 0
      · rw [if_pos hu0]
        simp (disch := first | omega | assumption) only [Option.bind_some, bn2_some, ii_lit, ii_neg, ii_add, ii_sub, ii_mul, ii_le, ii_lt, ii_eq, ii_ite, ii_or, ii_and, ii_bit, ii_rem, ii_div, b0_, b1_, b2_, b3_, true_and, and_true, u1_eq, u1_ne, u2_eq, u2_nk, u2_ni, uP_eq, uP_ne, gk1, gk2, gk3, gk4, gk10, gk11, gk12, gk13, gk14, gk15, gk17, gkr0, gkr7, gkr8, gkr9, gkr16, gkr18, gkr19, gkr5, gkr6, ok0, ok1, ok2, ok3, gl2_0, gl2_1, gl2_2, gl3_0, gl3_1, gl3_2, gm0, gm2, gm3, gm4, gm5, gm6, gm7, gm8, gm9, gm10, gm11, gm13, gm14, gm22, gm23, gm26, gm27, gm28, gm29, gm31, gm32, gm33, gm36, gm37, gm39, gm40, gm41, gm1, gm12, gm15, gm16, gm17, gm18, gm19, gm20, gm21, gm24, gm25, gm30, gm34, gm35, gm38, rk0, sk0, rk9, sk9, rk16, sk16, rk18, sk18, rk19, sk19, rm1, sm1, rm12, sm12, rm15, sm15, rm16, sm16, rm17, sm17, rm18, sm18, rm19, sm19, rm20, sm20, rm21, sm21, rm24, sm24, rm25, sm25, rm30, sm30, rm34, sm34, rm35, sm35, rm38, sm38, pk1, pk2, pk3, pk4, pk10, pk11, pk12, pk13, pk14, pk15, pk17, pkr5, pkr6, pm0, pm2, pm3, pm4, pm5, pm6, pm7, pm8, pm9, pm10, pm11, pm13, pz13_0, pz13_1, pm14, pz14_0, pz14_1, pm22, pm23, pm26, pm27, pm28, pm29, pm31, pm32, pm33, pm36, pm37, pm39, pm40, pm41, pl2_0, pl2_1, pl2_2, pl3_0, pl3_1, pl3_2, e6, e2.1, f_X2_askOf_J45, f_X2_askOf_J47]
        rw [if_neg (by omega), if_neg (by omega), if_pos hu0]
      · rw [if_neg hu0]
        have l1 := m_leaves x F P A f' l a' b (k := u) hR' (by omega) (by omega) e7 e8
        have l2 := m_leaves x F P A f' l a' b (k := k) hR' (by omega) (by omega) e7 e8
        have r1 := lvs_rg hR' u
        have r2 := lvs_rg hR' k
        rw [e15, e17] at l1 l2 r1 r2
        simp (disch := first | omega | assumption) only [Option.bind_some, bn2_some, ii_lit, ii_neg, ii_add, ii_sub, ii_mul, ii_le, ii_lt, ii_eq, ii_ite, ii_or, ii_and, ii_bit, ii_rem, ii_div, b0_, b1_, b2_, b3_, true_and, and_true, u1_eq, u1_ne, u2_eq, u2_nk, u2_ni, uP_eq, uP_ne, gk1, gk2, gk3, gk4, gk10, gk11, gk12, gk13, gk14, gk15, gk17, gkr0, gkr7, gkr8, gkr9, gkr16, gkr18, gkr19, gkr5, gkr6, ok0, ok1, ok2, ok3, gl2_0, gl2_1, gl2_2, gl3_0, gl3_1, gl3_2, gm0, gm2, gm3, gm4, gm5, gm6, gm7, gm8, gm9, gm10, gm11, gm13, gm14, gm22, gm23, gm26, gm27, gm28, gm29, gm31, gm32, gm33, gm36, gm37, gm39, gm40, gm41, gm1, gm12, gm15, gm16, gm17, gm18, gm19, gm20, gm21, gm24, gm25, gm30, gm34, gm35, gm38, rk0, sk0, rk9, sk9, rk16, sk16, rk18, sk18, rk19, sk19, rm1, sm1, rm12, sm12, rm15, sm15, rm16, sm16, rm17, sm17, rm18, sm18, rm19, sm19, rm20, sm20, rm21, sm21, rm24, sm24, rm25, sm25, rm30, sm30, rm34, sm34, rm35, sm35, rm38, sm38, pk1, pk2, pk3, pk4, pk10, pk11, pk12, pk13, pk14, pk15, pk17, pkr5, pkr6, pm0, pm2, pm3, pm4, pm5, pm6, pm7, pm8, pm9, pm10, pm11, pm13, pz13_0, pz13_1, pm14, pz14_0, pz14_1, pm22, pm23, pm26, pm27, pm28, pm29, pm31, pm32, pm33, pm36, pm37, pm39, pm40, pm41, pl2_0, pl2_1, pl2_2, pl3_0, pl3_1, pl3_2, e6, e2.1, l1, l2]
        rw [if_neg (by omega), if_neg (by omega), if_neg hu0]
  · rw [if_neg h0]
    rw [show fk_fuel = 3999 + 1 from rfl, f_X2_askOf_L11]
    simp (disch := first | omega | assumption) only [Option.bind_some, bn2_some, ii_lit, ii_neg, ii_add, ii_sub, ii_mul, ii_le, ii_lt, ii_eq, ii_ite, ii_or, ii_and, ii_bit, ii_rem, ii_div, b0_, b1_, b2_, b3_, true_and, and_true, u1_eq, u1_ne, u2_eq, u2_nk, u2_ni, uP_eq, uP_ne, gk1, gk2, gk3, gk4, gk10, gk11, gk12, gk13, gk14, gk15, gk17, gkr0, gkr7, gkr8, gkr9, gkr16, gkr18, gkr19, gkr5, gkr6, ok0, ok1, ok2, ok3, gl2_0, gl2_1, gl2_2, gl3_0, gl3_1, gl3_2, gm0, gm2, gm3, gm4, gm5, gm6, gm7, gm8, gm9, gm10, gm11, gm13, gm14, gm22, gm23, gm26, gm27, gm28, gm29, gm31, gm32, gm33, gm36, gm37, gm39, gm40, gm41, gm1, gm12, gm15, gm16, gm17, gm18, gm19, gm20, gm21, gm24, gm25, gm30, gm34, gm35, gm38, rk0, sk0, rk9, sk9, rk16, sk16, rk18, sk18, rk19, sk19, rm1, sm1, rm12, sm12, rm15, sm15, rm16, sm16, rm17, sm17, rm18, sm18, rm19, sm19, rm20, sm20, rm21, sm21, rm24, sm24, rm25, sm25, rm30, sm30, rm34, sm34, rm35, sm35, rm38, sm38, pk1, pk2, pk3, pk4, pk10, pk11, pk12, pk13, pk14, pk15, pk17, pkr5, pkr6, pm0, pm2, pm3, pm4, pm5, pm6, pm7, pm8, pm9, pm10, pm11, pm13, pz13_0, pz13_1, pm14, pz14_0, pz14_1, pm22, pm23, pm26, pm27, pm28, pm29, pm31, pm32, pm33, pm36, pm37, pm39, pm40, pm41, pl2_0, pl2_1, pl2_2, pl3_0, pl3_1, pl3_2, e6, e2.1]
    by_cases h5 : a 15 5 ≤ 0
    · rw [if_pos h5]
    · rw [if_neg h5, if_pos (by omega)]
theorem m_ask (x : Nat) (F : Nat → Int) (P : Nat → Option Nat) (A : Nat → Int → Int) (f l : Nat → Int) (a : Nat → Int → Int) (b : fk_M) (hM : Hm f a) : MO x F P A f l a b (s_ask (f 14) (a 15) (a 17) (a 19)) (if f 14 = 1 then 0 else 1) (f_X2_ask (some (x + 8)) (hp x F P A f l a b)) := by
  unfold f_X2_ask s_ask
  rw [ok1, Option.bind_some, m_good, Option.bind_some, gm14, Option.bind_some]
  have e14 : fo f 0 14 = f 14 := rfl
  rw [e14]
  rcases hM with h | ⟨h, hR⟩
  · rw [h, if_pos (show ii 0 = 0 by decide), if_neg (by decide), if_neg (by decide)]
    simp (disch := first | omega | assumption) only [Option.bind_some, bn2_some, ii_lit, ii_neg, ii_add, ii_sub, ii_mul, ii_le, ii_lt, ii_eq, ii_ite, ii_or, ii_and, ii_bit, ii_rem, ii_div, b0_, b1_, b2_, b3_, true_and, and_true, u1_eq, u1_ne, u2_eq, u2_nk, u2_ni, uP_eq, uP_ne, gk1, gk2, gk3, gk4, gk10, gk11, gk12, gk13, gk14, gk15, gk17, gkr0, gkr7, gkr8, gkr9, gkr16, gkr18, gkr19, gkr5, gkr6, ok0, ok1, ok2, ok3, gl2_0, gl2_1, gl2_2, gl3_0, gl3_1, gl3_2, gm0, gm2, gm3, gm4, gm5, gm6, gm7, gm8, gm9, gm10, gm11, gm13, gm14, gm22, gm23, gm26, gm27, gm28, gm29, gm31, gm32, gm33, gm36, gm37, gm39, gm40, gm41, gm1, gm12, gm15, gm16, gm17, gm18, gm19, gm20, gm21, gm24, gm25, gm30, gm34, gm35, gm38, rk0, sk0, rk9, sk9, rk16, sk16, rk18, sk18, rk19, sk19, rm1, sm1, rm12, sm12, rm15, sm15, rm16, sm16, rm17, sm17, rm18, sm18, rm19, sm19, rm20, sm20, rm21, sm21, rm24, sm24, rm25, sm25, rm30, sm30, rm34, sm34, rm35, sm35, rm38, sm38, pk1, pk2, pk3, pk4, pk10, pk11, pk12, pk13, pk14, pk15, pk17, pkr5, pkr6, pm0, pm2, pm3, pm4, pm5, pm6, pm7, pm8, pm9, pm10, pm11, pm13, pz13_0, pz13_1, pm14, pz14_0, pz14_1, pm22, pm23, pm26, pm27, pm28, pm29, pm31, pm32, pm33, pm36, pm37, pm39, pm40, pm41, pl2_0, pl2_1, pl2_2, pl3_0, pl3_1, pl3_2, m_no, u1_u1]
    exact MO.ref ..
  rw [h, if_neg (show ¬ ii 1 = 0 by decide), if_pos rfl, if_pos rfl]
  have hw := hR.wd
  obtain ⟨f', a', e1, e2, e3, e4, e5⟩ := m_askOf x F P A (fo f 0) l a b hR
  refine MO.mk f' l a' ?_ ((e3 0 (by omega) (by omega) (by omega)).trans ((u1_ne _ _ (by omega)).trans (u1_eq ..))) ((e3 11 (by omega) (by omega) (by omega)).trans (u1_eq ..)) ((mk.o f 0).tr (mk.us e3)) (ma.k 30 (by omega) e4)
  simp (disch := first | omega | assumption) only [Option.bind_some, bn2_some, ii_lit, ii_neg, ii_add, ii_sub, ii_mul, ii_le, ii_lt, ii_eq, ii_ite, ii_or, ii_and, ii_bit, ii_rem, ii_div, b0_, b1_, b2_, b3_, true_and, and_true, u1_eq, u1_ne, u2_eq, u2_nk, u2_ni, uP_eq, uP_ne, gk1, gk2, gk3, gk4, gk10, gk11, gk12, gk13, gk14, gk15, gk17, gkr0, gkr7, gkr8, gkr9, gkr16, gkr18, gkr19, gkr5, gkr6, ok0, ok1, ok2, ok3, gl2_0, gl2_1, gl2_2, gl3_0, gl3_1, gl3_2, gm0, gm2, gm3, gm4, gm5, gm6, gm7, gm8, gm9, gm10, gm11, gm13, gm14, gm22, gm23, gm26, gm27, gm28, gm29, gm31, gm32, gm33, gm36, gm37, gm39, gm40, gm41, gm1, gm12, gm15, gm16, gm17, gm18, gm19, gm20, gm21, gm24, gm25, gm30, gm34, gm35, gm38, rk0, sk0, rk9, sk9, rk16, sk16, rk18, sk18, rk19, sk19, rm1, sm1, rm12, sm12, rm15, sm15, rm16, sm16, rm17, sm17, rm18, sm18, rm19, sm19, rm20, sm20, rm21, sm21, rm24, sm24, rm25, sm25, rm30, sm30, rm34, sm34, rm35, sm35, rm38, sm38, pk1, pk2, pk3, pk4, pk10, pk11, pk12, pk13, pk14, pk15, pk17, pkr5, pkr6, pm0, pm2, pm3, pm4, pm5, pm6, pm7, pm8, pm9, pm10, pm11, pm13, pz13_0, pz13_1, pm14, pz14_0, pz14_1, pm22, pm23, pm26, pm27, pm28, pm29, pm31, pm32, pm33, pm36, pm37, pm39, pm40, pm41, pl2_0, pl2_1, pl2_2, pl3_0, pl3_1, pl3_2, e1]
theorem aks_rg {ρ τ σ : Int → Int} (hR : Rg ρ τ σ) : aks ρ τ = -2 ∨ (0 ≤ aks ρ τ ∧ aks ρ τ < ρ 5) := by
  have hn := hR.nm
  unfold aks
  split
  · have h := ak_rg (fst ρ τ (-1) (-1)) (n := (ρ 5).toNat)
    by_cases h0 : (ρ 5).toNat = 0
    · exact Or.inl (h.1 h0)
    · have := h.2 (by omega)
      exact Or.inr ⟨this.1, by omega⟩
  · exact Or.inl rfl
theorem m_askLeaves (x : Nat) (F : Nat → Int) (P : Nat → Option Nat) (A : Nat → Int → Int) (f l : Nat → Int) (a : Nat → Int → Int) (b : fk_M) (hM : Hm f a) : MO x F P A f l a b (s_askLeaves (f 14) (a 15) (a 17) (a 19)) (if f 14 = 1 then 0 else 1) (f_X2_askLeaves (some (x + 8)) (hp x F P A f l a b)) := by
  unfold f_X2_askLeaves s_askLeaves
  rw [ok1, Option.bind_some, m_good, Option.bind_some, gm14, Option.bind_some]
  have e14 : fo f 0 14 = f 14 := rfl
  rw [e14]
  rcases hM with h | ⟨h, hR⟩
  · rw [h, if_pos (show ii 0 = 0 by decide), if_neg (by decide), if_neg (by decide)]
    simp (disch := first | omega | assumption) only [Option.bind_some, bn2_some, ii_lit, ii_neg, ii_add, ii_sub, ii_mul, ii_le, ii_lt, ii_eq, ii_ite, ii_or, ii_and, ii_bit, ii_rem, ii_div, b0_, b1_, b2_, b3_, true_and, and_true, u1_eq, u1_ne, u2_eq, u2_nk, u2_ni, uP_eq, uP_ne, gk1, gk2, gk3, gk4, gk10, gk11, gk12, gk13, gk14, gk15, gk17, gkr0, gkr7, gkr8, gkr9, gkr16, gkr18, gkr19, gkr5, gkr6, ok0, ok1, ok2, ok3, gl2_0, gl2_1, gl2_2, gl3_0, gl3_1, gl3_2, gm0, gm2, gm3, gm4, gm5, gm6, gm7, gm8, gm9, gm10, gm11, gm13, gm14, gm22, gm23, gm26, gm27, gm28, gm29, gm31, gm32, gm33, gm36, gm37, gm39, gm40, gm41, gm1, gm12, gm15, gm16, gm17, gm18, gm19, gm20, gm21, gm24, gm25, gm30, gm34, gm35, gm38, rk0, sk0, rk9, sk9, rk16, sk16, rk18, sk18, rk19, sk19, rm1, sm1, rm12, sm12, rm15, sm15, rm16, sm16, rm17, sm17, rm18, sm18, rm19, sm19, rm20, sm20, rm21, sm21, rm24, sm24, rm25, sm25, rm30, sm30, rm34, sm34, rm35, sm35, rm38, sm38, pk1, pk2, pk3, pk4, pk10, pk11, pk12, pk13, pk14, pk15, pk17, pkr5, pkr6, pm0, pm2, pm3, pm4, pm5, pm6, pm7, pm8, pm9, pm10, pm11, pm13, pz13_0, pz13_1, pm14, pz14_0, pz14_1, pm22, pm23, pm26, pm27, pm28, pm29, pm31, pm32, pm33, pm36, pm37, pm39, pm40, pm41, pl2_0, pl2_1, pl2_2, pl3_0, pl3_1, pl3_2, m_no, u1_u1]
    exact MO.ref ..
  rw [h, if_neg (show ¬ ii 1 = 0 by decide), if_pos rfl, if_pos rfl]
  have hw := hR.wd
  obtain ⟨f', a', e1, e2, e3, e4, e5⟩ := m_askOf x F P A (fo f 0) l a b hR
  have hn := hR.nm
  have e15 := e4 15 (by omega)
  have e17 := e4 17 (by omega)
  have e19 := e4 19 (by omega)
  have hR' : Rg (a' 15) (a' 17) (a' 19) := by rw [e15, e17, e19]; exact hR
  have e7 : f' 31 = (fst (a' 15) (a' 17) (-1) (-1)).2.1 := by rw [e15, e17]; exact e2
  have e8 : ∀ k, 0 ≤ k → k < 4 → a' 30 k = (fst (a' 15) (a' 17) (-1) (-1)).2.2.2.2 k := by rw [e15, e17]; exact e5
  refine MO.mk f' l a' ?_ ((e3 0 (by omega) (by omega) (by omega)).trans ((u1_ne _ _ (by omega)).trans (u1_eq ..))) ((e3 11 (by omega) (by omega) (by omega)).trans (u1_eq ..)) ((mk.o f 0).tr (mk.us e3)) (ma.k 30 (by omega) e4)
  have ha := aks_rg hR
  by_cases h0 : aks (a 15) (a 17) < 0
  · simp (disch := first | omega | assumption) only [Option.bind_some, bn2_some, ii_lit, ii_neg, ii_add, ii_sub, ii_mul, ii_le, ii_lt, ii_eq, ii_ite, ii_or, ii_and, ii_bit, ii_rem, ii_div, b0_, b1_, b2_, b3_, true_and, and_true, u1_eq, u1_ne, u2_eq, u2_nk, u2_ni, uP_eq, uP_ne, gk1, gk2, gk3, gk4, gk10, gk11, gk12, gk13, gk14, gk15, gk17, gkr0, gkr7, gkr8, gkr9, gkr16, gkr18, gkr19, gkr5, gkr6, ok0, ok1, ok2, ok3, gl2_0, gl2_1, gl2_2, gl3_0, gl3_1, gl3_2, gm0, gm2, gm3, gm4, gm5, gm6, gm7, gm8, gm9, gm10, gm11, gm13, gm14, gm22, gm23, gm26, gm27, gm28, gm29, gm31, gm32, gm33, gm36, gm37, gm39, gm40, gm41, gm1, gm12, gm15, gm16, gm17, gm18, gm19, gm20, gm21, gm24, gm25, gm30, gm34, gm35, gm38, rk0, sk0, rk9, sk9, rk16, sk16, rk18, sk18, rk19, sk19, rm1, sm1, rm12, sm12, rm15, sm15, rm16, sm16, rm17, sm17, rm18, sm18, rm19, sm19, rm20, sm20, rm21, sm21, rm24, sm24, rm25, sm25, rm30, sm30, rm34, sm34, rm35, sm35, rm38, sm38, pk1, pk2, pk3, pk4, pk10, pk11, pk12, pk13, pk14, pk15, pk17, pkr5, pkr6, pm0, pm2, pm3, pm4, pm5, pm6, pm7, pm8, pm9, pm10, pm11, pm13, pz13_0, pz13_1, pm14, pz14_0, pz14_1, pm22, pm23, pm26, pm27, pm28, pm29, pm31, pm32, pm33, pm36, pm37, pm39, pm40, pm41, pl2_0, pl2_1, pl2_2, pl3_0, pl3_1, pl3_2, e1, if_pos h0]
    rw [if_neg (by omega)]
  · have l1 := m_leaves x F P A f' l a' b (k := aks (a 15) (a 17)) hR' (by omega) (by omega) e7 e8
    rw [e15, e17] at l1
    simp (disch := first | omega | assumption) only [Option.bind_some, bn2_some, ii_lit, ii_neg, ii_add, ii_sub, ii_mul, ii_le, ii_lt, ii_eq, ii_ite, ii_or, ii_and, ii_bit, ii_rem, ii_div, b0_, b1_, b2_, b3_, true_and, and_true, u1_eq, u1_ne, u2_eq, u2_nk, u2_ni, uP_eq, uP_ne, gk1, gk2, gk3, gk4, gk10, gk11, gk12, gk13, gk14, gk15, gk17, gkr0, gkr7, gkr8, gkr9, gkr16, gkr18, gkr19, gkr5, gkr6, ok0, ok1, ok2, ok3, gl2_0, gl2_1, gl2_2, gl3_0, gl3_1, gl3_2, gm0, gm2, gm3, gm4, gm5, gm6, gm7, gm8, gm9, gm10, gm11, gm13, gm14, gm22, gm23, gm26, gm27, gm28, gm29, gm31, gm32, gm33, gm36, gm37, gm39, gm40, gm41, gm1, gm12, gm15, gm16, gm17, gm18, gm19, gm20, gm21, gm24, gm25, gm30, gm34, gm35, gm38, rk0, sk0, rk9, sk9, rk16, sk16, rk18, sk18, rk19, sk19, rm1, sm1, rm12, sm12, rm15, sm15, rm16, sm16, rm17, sm17, rm18, sm18, rm19, sm19, rm20, sm20, rm21, sm21, rm24, sm24, rm25, sm25, rm30, sm30, rm34, sm34, rm35, sm35, rm38, sm38, pk1, pk2, pk3, pk4, pk10, pk11, pk12, pk13, pk14, pk15, pk17, pkr5, pkr6, pm0, pm2, pm3, pm4, pm5, pm6, pm7, pm8, pm9, pm10, pm11, pm13, pz13_0, pz13_1, pm14, pz14_0, pz14_1, pm22, pm23, pm26, pm27, pm28, pm29, pm31, pm32, pm33, pm36, pm37, pm39, pm40, pm41, pl2_0, pl2_1, pl2_2, pl3_0, pl3_1, pl3_2, e1, if_neg h0, l1]
    rw [if_pos (by omega)]
def trd (ρ τ : Int → Int) (p u k : Int) : Int := if ρ (26 + 3 * k) = p then u + (if 0 ≤ ρ (26 + 3 * k + 2) - td ρ τ p 0 (ρ (26 + 3 * k + 1)).toNat then ρ (26 + 3 * k + 2) - td ρ τ p 0 (ρ (26 + 3 * k + 1)).toNat else -(ρ (26 + 3 * k + 2) - td ρ τ p 0 (ρ (26 + 3 * k + 1)).toNat)) else u
def s_third (h : Int) (ρ τ : Int → Int) (p : Int) : Int := if (h = 1 ∧ 0 ≤ p ∧ p < ρ 2) then itr (trd ρ τ p) (ρ 6).toNat 0 0 else -1
theorem m_third (x : Nat) (F : Nat → Int) (P : Nat → Option Nat) (A : Nat → Int → Int) (f l : Nat → Int) (a : Nat → Int → Int) (b : fk_M) {p : Int} (hp0 : rg p) (hM : Hm f a) : MO x F P A f l a b (s_third (f 14) (a 15) (a 17) p) (if (f 14 = 1 ∧ 0 ≤ p ∧ p < a 15 2) then 0 else 1) (f_X2_third (some (x + 8)) (ii p) (hp x F P A f l a b)) := by
  refine MO.of ?_
  unfold f_X2_third s_third
  have hM' : Hm (fo f 0) a := hM
  simp (disch := first | omega | assumption) only [Option.bind_some, bn2_some, ii_lit, ii_neg, ii_add, ii_sub, ii_mul, ii_le, ii_lt, ii_eq, ii_ite, ii_or, ii_and, ii_bit, ii_rem, ii_div, b0_, b1_, b2_, b3_, true_and, and_true, u1_eq, u1_ne, u2_eq, u2_nk, u2_ni, uP_eq, uP_ne, gk1, gk2, gk3, gk4, gk10, gk11, gk12, gk13, gk14, gk15, gk17, gkr0, gkr7, gkr8, gkr9, gkr16, gkr18, gkr19, gkr5, gkr6, ok0, ok1, ok2, ok3, gl2_0, gl2_1, gl2_2, gl3_0, gl3_1, gl3_2, gm0, gm2, gm3, gm4, gm5, gm6, gm7, gm8, gm9, gm10, gm11, gm13, gm14, gm22, gm23, gm26, gm27, gm28, gm29, gm31, gm32, gm33, gm36, gm37, gm39, gm40, gm41, gm1, gm12, gm15, gm16, gm17, gm18, gm19, gm20, gm21, gm24, gm25, gm30, gm34, gm35, gm38, rk0, sk0, rk9, sk9, rk16, sk16, rk18, sk18, rk19, sk19, rm1, sm1, rm12, sm12, rm15, sm15, rm16, sm16, rm17, sm17, rm18, sm18, rm19, sm19, rm20, sm20, rm21, sm21, rm24, sm24, rm25, sm25, rm30, sm30, rm34, sm34, rm35, sm35, rm38, sm38, pk1, pk2, pk3, pk4, pk10, pk11, pk12, pk13, pk14, pk15, pk17, pkr5, pkr6, pm0, pm2, pm3, pm4, pm5, pm6, pm7, pm8, pm9, pm10, pm11, pm13, pz13_0, pz13_1, pm14, pz14_0, pz14_1, pm22, pm23, pm26, pm27, pm28, pm29, pm31, pm32, pm33, pm36, pm37, pm39, pm40, pm41, pl2_0, pl2_1, pl2_2, pl3_0, pl3_1, pl3_2, m_good, m_isPair, m_no, u1_u1]
  by_cases h0 : (f 14 = 1 ∧ 0 ≤ p ∧ p < a 15 2)
  rotate_left
  · rw [if_pos h0, if_neg h0, if_neg h0]
  rw [if_neg (Decidable.not_not.mpr h0), if_pos h0, if_pos h0]
  obtain ⟨h1, h2, h3⟩ := h0
  obtain h | ⟨-, hR⟩ := hM
  · omega
  have hq := hR.pr h2 h3
  have hw := hR.wd
  have hn := hR.nm
  refine loop_i0 (fun N u k => f_X2_third_L22 (some (x + 8)) (ii p) (hp x F P A (fo f 0) l a b) N (ii u) (ii k)) (trd (a 15) (a 17) p) (fun u => some (ii u, hp x F P A (fo f 0) l a b)) (lo := 0) (hi := a 15 6) ?_ ?_ (a 15 6).toNat fk_fuel 0 0 (by omega) (by omega) (by unfold fk_fuel; omega)
  · intros
    try dsimp only
    rw [f_X2_third_L22]
    simp (disch := first | omega | assumption) only [Option.bind_some, bn2_some, ii_lit, ii_neg, ii_add, ii_sub, ii_mul, ii_le, ii_lt, ii_eq, ii_ite, ii_or, ii_and, ii_bit, ii_rem, ii_div, b0_, b1_, b2_, b3_, true_and, and_true, u1_eq, u1_ne, u2_eq, u2_nk, u2_ni, uP_eq, uP_ne, gk1, gk2, gk3, gk4, gk10, gk11, gk12, gk13, gk14, gk15, gk17, gkr0, gkr7, gkr8, gkr9, gkr16, gkr18, gkr19, gkr5, gkr6, ok0, ok1, ok2, ok3, gl2_0, gl2_1, gl2_2, gl3_0, gl3_1, gl3_2, gm0, gm2, gm3, gm4, gm5, gm6, gm7, gm8, gm9, gm10, gm11, gm13, gm14, gm22, gm23, gm26, gm27, gm28, gm29, gm31, gm32, gm33, gm36, gm37, gm39, gm40, gm41, gm1, gm12, gm15, gm16, gm17, gm18, gm19, gm20, gm21, gm24, gm25, gm30, gm34, gm35, gm38, rk0, sk0, rk9, sk9, rk16, sk16, rk18, sk18, rk19, sk19, rm1, sm1, rm12, sm12, rm15, sm15, rm16, sm16, rm17, sm17, rm18, sm18, rm19, sm19, rm20, sm20, rm21, sm21, rm24, sm24, rm25, sm25, rm30, sm30, rm34, sm34, rm35, sm35, rm38, sm38, pk1, pk2, pk3, pk4, pk10, pk11, pk12, pk13, pk14, pk15, pk17, pkr5, pkr6, pm0, pm2, pm3, pm4, pm5, pm6, pm7, pm8, pm9, pm10, pm11, pm13, pz13_0, pz13_1, pm14, pz14_0, pz14_1, pm22, pm23, pm26, pm27, pm28, pm29, pm31, pm32, pm33, pm36, pm37, pm39, pm40, pm41, pl2_0, pl2_1, pl2_2, pl3_0, pl3_1, pl3_2]
    rw [if_pos (by omega)]
  · intro N u k k1 k2
    have hu := hR.hd k1 k2
    have ht := td_rg hR h2 h3 0 (a 15 (26 + 3 * k + 1)).toNat
    try dsimp only
    rw [f_X2_third_L22]
    simp (disch := first | omega | assumption) only [Option.bind_some, bn2_some, ii_lit, ii_neg, ii_add, ii_sub, ii_mul, ii_le, ii_lt, ii_eq, ii_ite, ii_or, ii_and, ii_bit, ii_rem, ii_div, b0_, b1_, b2_, b3_, true_and, and_true, u1_eq, u1_ne, u2_eq, u2_nk, u2_ni, uP_eq, uP_ne, gk1, gk2, gk3, gk4, gk10, gk11, gk12, gk13, gk14, gk15, gk17, gkr0, gkr7, gkr8, gkr9, gkr16, gkr18, gkr19, gkr5, gkr6, ok0, ok1, ok2, ok3, gl2_0, gl2_1, gl2_2, gl3_0, gl3_1, gl3_2, gm0, gm2, gm3, gm4, gm5, gm6, gm7, gm8, gm9, gm10, gm11, gm13, gm14, gm22, gm23, gm26, gm27, gm28, gm29, gm31, gm32, gm33, gm36, gm37, gm39, gm40, gm41, gm1, gm12, gm15, gm16, gm17, gm18, gm19, gm20, gm21, gm24, gm25, gm30, gm34, gm35, gm38, rk0, sk0, rk9, sk9, rk16, sk16, rk18, sk18, rk19, sk19, rm1, sm1, rm12, sm12, rm15, sm15, rm16, sm16, rm17, sm17, rm18, sm18, rm19, sm19, rm20, sm20, rm21, sm21, rm24, sm24, rm25, sm25, rm30, sm30, rm34, sm34, rm35, sm35, rm38, sm38, pk1, pk2, pk3, pk4, pk10, pk11, pk12, pk13, pk14, pk15, pk17, pkr5, pkr6, pm0, pm2, pm3, pm4, pm5, pm6, pm7, pm8, pm9, pm10, pm11, pm13, pz13_0, pz13_1, pm14, pz14_0, pz14_1, pm22, pm23, pm26, pm27, pm28, pm29, pm31, pm32, pm33, pm36, pm37, pm39, pm40, pm41, pl2_0, pl2_1, pl2_2, pl3_0, pl3_1, pl3_2, m_saidThen, f_X2_third_J102]
    rw [if_neg (by omega)]
    unfold trd
    split <;> rfl
