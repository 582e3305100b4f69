/-! PLAIN 3: what both say, in Int -/
set_option maxRecDepth 100000
theorem bn2_some {α β γ : Type} (u : α) (v : β) (g : α → β → Option γ) : bn2 (some (u, v)) g = g u v := rfl
theorem bn3_some {γ : Type} (u v : Nat) (w : fk_M) (g : Nat → Nat → fk_M → Option γ) : bn3 (some (u, v, w)) g = g u v w := rfl
theorem bn4_some {α γ : Type} (r : α) (u v : Nat) (w : fk_M) (g : α → Nat → Nat → fk_M → Option γ) : bn4 (some (r, u, v, w)) g = g r u v w := rfl
theorem b0_ {c : Prop} [Decidable c] : ((if c then (1 : Int) else 0) = 0) = ¬ c := by
  apply propext
  split <;> simp [*]
theorem b1_ {c : Prop} [Decidable c] : ((if c then (1 : Int) else 0) = 1) = c := by
  apply propext
  split <;> simp [*]
theorem b2_ {c : Prop} [Decidable c] : ((if c then (0 : Int) else 1) = 0) = c := by
  apply propext
  split <;> simp [*]
theorem b3_ {c : Prop} [Decidable c] : ((if c then (0 : Int) else 1) = 1) = ¬ c := by
  apply propext
  split <;> simp [*]
/-- bits, told by Int -/
def ior (a b : Int) : Int := (ii a ||| ii b).toInt
def iand (a b : Int) : Int := (ii a &&& ii b).toInt
abbrev hb (s k : Int) : Prop := (i_shr (ii s) (ii k) &&& 1) = 1
theorem ii_tI (z : Int32) : ii z.toInt = z := Int32.ofInt_toInt z
theorem ii_or (a b : Int) : ii a ||| ii b = ii (ior a b) := (ii_tI _).symm
theorem ii_and (a b : Int) : ii a &&& ii b = ii (iand a b) := (ii_tI _).symm
theorem bit_01 (z : Int32) : z &&& 1 = 0 ∨ z &&& 1 = 1 := by
  have h : (z &&& 1).toBitVec = 0#32 ∨ (z &&& 1).toBitVec = 1#32 := by
    rw [Int32.toBitVec_and]
    show z.toBitVec &&& 1#32 = 0#32 ∨ z.toBitVec &&& 1#32 = 1#32
    have h1 : z.toBitVec &&& 1#32 = if z.toBitVec.getLsbD 0 then 1#32 else 0#32 := BitVec.and_one_eq_setWidth_ofBool_getLsbD |>.trans (by cases z.toBitVec.getLsbD 0 <;> rfl)
    rw [h1]
    split
    · exact Or.inr rfl
    · exact Or.inl rfl
  rcases h with h | h
  · exact Or.inl (Int32.toBitVec_inj.mp h)
  · exact Or.inr (Int32.toBitVec_inj.mp h)
theorem ii_bit (s k : Int) : i_shr (ii s) (ii k) &&& ii 1 = ii (if hb s k then 1 else 0) := by
  show i_shr (ii s) (ii k) &&& 1 = _
  unfold hb
  rcases bit_01 (i_shr (ii s) (ii k)) with h | h
  · rw [h]
    rfl
  · rw [h]
    rfl
def p2 (k : Int) : Int := 2 ^ k.toNat
theorem p2_rg {k : Int} (h0 : 0 ≤ k) (h1 : k ≤ 5) : 1 ≤ p2 k ∧ p2 k ≤ 32 := by
  have : k = 0 ∨ k = 1 ∨ k = 2 ∨ k = 3 ∨ k = 4 ∨ k = 5 := by omega
  rcases this with rfl | rfl | rfl | rfl | rfl | rfl <;> decide
theorem ii_shl1 {k : Int} (h0 : 0 ≤ k) (h1 : k ≤ 5) : i_shl (ii 1) (ii k) = ii (p2 k) := by
  have : k = 0 ∨ k = 1 ∨ k = 2 ∨ k = 3 ∨ k = 4 ∨ k = 5 := by omega
  rcases this with rfl | rfl | rfl | rfl | rfl | rfl <;> decide
theorem m_hasBit (m : fk_M) (s k : Int) : f_X2_hasBit (ii s) (ii k) m = some (ii (if hb s k then 1 else 0)) := by
  unfold f_X2_hasBit hb
  split <;> rfl
theorem k_hasB (m : fk_M) (s k : Int) : f_X1_has (ii s) (ii k) m = some (ii (if hb s k then 1 else 0)) := by
  unfold f_X1_has hb
  split <;> rfl
def lawv (law fig step words : Int) : Int := if law = 0 then fig + step else if law = 1 then 2 * fig + step else if law = 2 then fig - step else words - fig + step
def wi (W v : Int) : Int := if v < 0 then 0 else if W < v then W else v
/-- behind one more season -/
def bh (ρ : Int → Int) (p fig step every season dumb : Int) : Int := if 0 < every ∧ season % every = 0 then ρ 0 - (if dumb = 0 then wi (ρ 0) (lawv (ρ (8 + p)) fig step (ρ 0)) else fig) else (if dumb = 0 then wi (ρ 0) (lawv (ρ (8 + p)) fig step (ρ 0)) else fig)
/-- what is said so many seasons on -/
def tl (ρ σ : Int → Int) (p step every : Int) : Nat → Int
  | 0 => σ p
  | k + 1 => bh ρ p (tl ρ σ p step every k) step every (σ 35 + (k + 1)) 0
/-- what the numbers of a pier keep to -/
def Rg (ρ τ σ : Int → Int) : Prop :=
  (2 ≤ ρ 0 ∧ ρ 0 ≤ 99) ∧ (0 ≤ ρ 1 ∧ ρ 1 ≤ 100) ∧ (1 ≤ ρ 2 ∧ ρ 2 ≤ 5) ∧ (0 ≤ ρ 3 ∧ ρ 3 ≤ 5) ∧ (0 ≤ ρ 4 ∧ ρ 4 ≤ 10) ∧ (0 ≤ ρ 5 ∧ ρ 5 ≤ 4) ∧ (0 ≤ ρ 6 ∧ ρ 6 ≤ 8) ∧
  (∀ p, 0 ≤ p → p < ρ 2 → (0 ≤ ρ (8 + p) ∧ ρ (8 + p) ≤ 3) ∧ (0 ≤ ρ (13 + p) ∧ ρ (13 + p) ≤ 9) ∧ (0 ≤ τ p ∧ τ p ≤ ρ 0) ∧ (0 ≤ τ (5 + p) ∧ τ (5 + p) ≤ 20) ∧ (0 ≤ σ p ∧ σ p ≤ ρ 0) ∧ (0 ≤ σ (5 + p) ∧ σ (5 + p) ≤ 20)) ∧
  (∀ p q, 0 ≤ p → p < ρ 2 → 0 ≤ q → q < ρ 2 → (0 ≤ σ (10 + 5 * p + q) ∧ σ (10 + 5 * p + q) ≤ 99) ∧ (p = q → σ (10 + 5 * p + q) = 0)) ∧
  (∀ k, 0 ≤ k → k < ρ 5 → (0 ≤ ρ (18 + 2 * k) ∧ ρ (18 + 2 * k) < ρ 2) ∧ (0 ≤ ρ (18 + 2 * k + 1) ∧ ρ (18 + 2 * k + 1) ≤ 20)) ∧
  (∀ k j, 0 ≤ k → k < ρ 5 → 0 ≤ j → j < ρ 5 → ρ (18 + 2 * k) = ρ (18 + 2 * j) → k = j) ∧
  (∀ k, 0 ≤ k → k < ρ 6 → (0 ≤ ρ (26 + 3 * k) ∧ ρ (26 + 3 * k) < ρ 2) ∧ (1 ≤ ρ (26 + 3 * k + 1) ∧ ρ (26 + 3 * k + 1) ≤ 30) ∧ (0 ≤ ρ (26 + 3 * k + 2) ∧ ρ (26 + 3 * k + 2) ≤ ρ 0)) ∧
  (0 ≤ σ 35 ∧ σ 35 ≤ 999)
theorem wi_rg {W : Int} (v : Int) (h : 0 ≤ W) : 0 ≤ wi W v ∧ wi W v ≤ W := by
  unfold wi
  split
  · omega
  · split <;> omega
theorem lawv_rg {law fig step W : Int} (h1 : 0 ≤ fig) (h2 : fig ≤ W) (h3 : W ≤ 99) (h4 : 0 ≤ step) (h5 : step ≤ 20) : -1000 ≤ lawv law fig step W ∧ lawv law fig step W ≤ 1000 := by
  unfold lawv
  split
  · omega
  · split
    · omega
    · split <;> omega
theorem bh_rg {ρ : Int → Int} {p fig step every season dumb : Int} (hW : 0 ≤ ρ 0) (h1 : 0 ≤ fig) (h2 : fig ≤ ρ 0) : 0 ≤ bh ρ p fig step every season dumb ∧ bh ρ p fig step every season dumb ≤ ρ 0 := by
  have hw := wi_rg (lawv (ρ (8 + p)) fig step (ρ 0)) hW
  unfold bh
  split
  · split <;> omega
  · split <;> omega
theorem tl_rg {ρ σ : Int → Int} {p step every : Int} (hW : 0 ≤ ρ 0) (h1 : 0 ≤ σ p) (h2 : σ p ≤ ρ 0) (k : Nat) : 0 ≤ tl ρ σ p step every k ∧ tl ρ σ p step every k ≤ ρ 0 := by
  induction k with
  | zero => exact ⟨h1, h2⟩
  | succ k ih => exact bh_rg hW ih.1 ih.2
/-! the model's -/
section MDL
theorem u1_u1 (F : Nat → Int) (k : Nat) (v w : Int) : u1 (u1 F k v) k w = u1 F k w := by
  funext j
  unfold u1
  split <;> rfl
theorem ii_pk (z : Int32) : z = ii z.toInt ∧ rg z.toInt := ⟨(Int32.ofInt_toInt z).symm, Int32.le_toInt z, Int.le_of_lt_add_one (Int32.toInt_lt z)⟩
theorem m_in (m : fk_M) {v lo hi : Int} (h1 : rg v) (h2 : rg lo) (h3 : rg hi) : f_X2_in (ii v) (ii lo) (ii hi) m = some (ii (if lo ≤ v ∧ v ≤ hi then 1 else 0)) := by
  unfold f_X2_in
  simp (disch := omega) only [Option.bind_some, ii_lit, ii_neg, ii_add, ii_sub, ii_mul, ii_le, ii_lt, ii_eq, ii_ite, ii_or, ii_and, ii_bit, ii_rem, ii_div, b0_, b1_, b2_, b3_, true_and, and_true]
  congr 2
  (repeat' split) <;> omega
theorem m_within (x : Nat) (F : Nat → Int) (P : Nat → Option Nat) (A : Nat → Int → Int) (f l : Nat → Int) (a : Nat → Int → Int) (b : fk_M) {v : Int} (h1 : -1000 ≤ v) (h2 : v ≤ 1000) (hW : 0 ≤ a 15 0) (hW2 : a 15 0 ≤ 99) : f_X2_within (some (x + 8)) (ii v) (hp x F P A f l a b) = some (ii (wi (a 15 0) v)) := by
  unfold f_X2_within wi
  simp (disch := omega) only [Option.bind_some, bn2_some, ii_lit, ii_neg, ii_add, ii_sub, ii_mul, ii_le, ii_lt, ii_eq, ii_ite, ii_or, ii_and, ii_bit, ii_rem, ii_div, b0_, b1_, b2_, b3_, true_and, and_true, u1_eq, u1_ne, u2_eq, u2_nk, u2_ni, uP_eq, uP_ne, gk1, gk2, gk3, gk4, gk10, gk11, gk12, gk13, gk14, gk15, gk17, gkr0, gkr7, gkr8, gkr9, gkr16, gkr18, gkr19, gkr5, gkr6, ok0, ok1, ok2, ok3, gl2_0, gl2_1, gl2_2, gl3_0, gl3_1, gl3_2, gm0, gm2, gm3, gm4, gm5, gm6, gm7, gm8, gm9, gm10, gm11, gm13, gm14, gm22, gm23, gm26, gm27, gm28, gm29, gm31, gm32, gm33, gm36, gm37, gm39, gm40, gm41, gm1, gm12, gm15, gm16, gm17, gm18, gm19, gm20, gm21, gm24, gm25, gm30, gm34, gm35, gm38, rk0, sk0, rk9, sk9, rk16, sk16, rk18, sk18, rk19, sk19, rm1, sm1, rm12, sm12, rm15, sm15, rm16, sm16, rm17, sm17, rm18, sm18, rm19, sm19, rm20, sm20, rm21, sm21, rm24, sm24, rm25, sm25, rm30, sm30, rm34, sm34, rm35, sm35, rm38, sm38, pk1, pk2, pk3, pk4, pk10, pk11, pk12, pk13, pk14, pk15, pk17, pkr5, pkr6, pm0, pm2, pm3, pm4, pm5, pm6, pm7, pm8, pm9, pm10, pm11, pm13, pz13_0, pz13_1, pm14, pz14_0, pz14_1, pm22, pm23, pm26, pm27, pm28, pm29, pm31, pm32, pm33, pm36, pm37, pm39, pm40, pm41, pl2_0, pl2_1, pl2_2, pl3_0, pl3_1, pl3_2]
  (repeat' split) <;> first | rfl | omega
theorem m_byLaw (x : Nat) (F : Nat → Int) (P : Nat → Option Nat) (A : Nat → Int → Int) (f l : Nat → Int) (a : Nat → Int → Int) (b : fk_M) {p v s : Int} (hp0 : 0 ≤ p) (hp1 : p < 5) (hW : 0 ≤ a 15 0) (hW2 : a 15 0 ≤ 99) (hv : 0 ≤ v) (hv2 : v ≤ a 15 0) (hs : 0 ≤ s) (hs2 : s ≤ 20) (hl : 0 ≤ a 15 (8 + p)) (hl2 : a 15 (8 + p) ≤ 3) : f_X2_byLaw (some (x + 8)) (ii p) (ii v) (ii s) (hp x F P A f l a b) = some (ii (wi (a 15 0) (lawv (a 15 (8 + p)) v s (a 15 0)))) := by
  unfold f_X2_byLaw f_X2_byLaw_J59 lawv
  simp (disch := omega) only [Option.bind_some, bn2_some, ii_lit, ii_neg, ii_add, ii_sub, ii_mul, ii_le, ii_lt, ii_eq, ii_ite, ii_or, ii_and, ii_bit, ii_rem, ii_div, b0_, b1_, b2_, b3_, true_and, and_true, u1_eq, u1_ne, u2_eq, u2_nk, u2_ni, uP_eq, uP_ne, gk1, gk2, gk3, gk4, gk10, gk11, gk12, gk13, gk14, gk15, gk17, gkr0, gkr7, gkr8, gkr9, gkr16, gkr18, gkr19, gkr5, gkr6, ok0, ok1, ok2, ok3, gl2_0, gl2_1, gl2_2, gl3_0, gl3_1, gl3_2, gm0, gm2, gm3, gm4, gm5, gm6, gm7, gm8, gm9, gm10, gm11, gm13, gm14, gm22, gm23, gm26, gm27, gm28, gm29, gm31, gm32, gm33, gm36, gm37, gm39, gm40, gm41, gm1, gm12, gm15, gm16, gm17, gm18, gm19, gm20, gm21, gm24, gm25, gm30, gm34, gm35, gm38, rk0, sk0, rk9, sk9, rk16, sk16, rk18, sk18, rk19, sk19, rm1, sm1, rm12, sm12, rm15, sm15, rm16, sm16, rm17, sm17, rm18, sm18, rm19, sm19, rm20, sm20, rm21, sm21, rm24, sm24, rm25, sm25, rm30, sm30, rm34, sm34, rm35, sm35, rm38, sm38, pk1, pk2, pk3, pk4, pk10, pk11, pk12, pk13, pk14, pk15, pk17, pkr5, pkr6, pm0, pm2, pm3, pm4, pm5, pm6, pm7, pm8, pm9, pm10, pm11, pm13, pz13_0, pz13_1, pm14, pz14_0, pz14_1, pm22, pm23, pm26, pm27, pm28, pm29, pm31, pm32, pm33, pm36, pm37, pm39, pm40, pm41, pl2_0, pl2_1, pl2_2, pl3_0, pl3_1, pl3_2, m_within]
  (repeat' split) <;> first | rfl | omega
theorem m_behind (x : Nat) (F : Nat → Int) (P : Nat → Option Nat) (A : Nat → Int → Int) (f l : Nat → Int) (a : Nat → Int → Int) (b : fk_M) {p v s e g d : Int} (hp0 : 0 ≤ p) (hp1 : p < 5) (hW : 0 ≤ a 15 0) (hW2 : a 15 0 ≤ 99) (hv : 0 ≤ v) (hv2 : v ≤ a 15 0) (hs : 0 ≤ s) (hs2 : s ≤ 20) (hl : 0 ≤ a 15 (8 + p)) (hl2 : a 15 (8 + p) ≤ 3) (he : 0 ≤ e) (he2 : e ≤ 9) (hg : 0 ≤ g) (hg2 : g ≤ 2000000) (hd : 0 ≤ d) (hd2 : d ≤ 1) : f_X2_behind (some (x + 8)) (ii p) (ii v) (ii s) (ii e) (ii g) (ii d) (hp x F P A f l a b) = some (ii (bh (a 15) p v s e g d)) := by
  have hw := wi_rg (lawv (a 15 (8 + p)) v s (a 15 0)) hW
  have hm1 : 0 < e → 0 ≤ g % e := fun h => Int.emod_nonneg _ (by omega)
  have hm2 : 0 < e → g % e < e := fun h => Int.emod_lt_of_pos _ h
  unfold f_X2_behind f_X2_behind_J16 bh
  by_cases h0 : 0 < e
  · have := hm1 h0
    have := hm2 h0
    simp (disch := omega) only [Option.bind_some, bn2_some, ii_lit, ii_neg, ii_add, ii_sub, ii_mul, ii_le, ii_lt, ii_eq, ii_ite, ii_or, ii_and, ii_bit, ii_rem, ii_div, b0_, b1_, b2_, b3_, true_and, and_true, u1_eq, u1_ne, u2_eq, u2_nk, u2_ni, uP_eq, uP_ne, gk1, gk2, gk3, gk4, gk10, gk11, gk12, gk13, gk14, gk15, gk17, gkr0, gkr7, gkr8, gkr9, gkr16, gkr18, gkr19, gkr5, gkr6, ok0, ok1, ok2, ok3, gl2_0, gl2_1, gl2_2, gl3_0, gl3_1, gl3_2, gm0, gm2, gm3, gm4, gm5, gm6, gm7, gm8, gm9, gm10, gm11, gm13, gm14, gm22, gm23, gm26, gm27, gm28, gm29, gm31, gm32, gm33, gm36, gm37, gm39, gm40, gm41, gm1, gm12, gm15, gm16, gm17, gm18, gm19, gm20, gm21, gm24, gm25, gm30, gm34, gm35, gm38, rk0, sk0, rk9, sk9, rk16, sk16, rk18, sk18, rk19, sk19, rm1, sm1, rm12, sm12, rm15, sm15, rm16, sm16, rm17, sm17, rm18, sm18, rm19, sm19, rm20, sm20, rm21, sm21, rm24, sm24, rm25, sm25, rm30, sm30, rm34, sm34, rm35, sm35, rm38, sm38, pk1, pk2, pk3, pk4, pk10, pk11, pk12, pk13, pk14, pk15, pk17, pkr5, pkr6, pm0, pm2, pm3, pm4, pm5, pm6, pm7, pm8, pm9, pm10, pm11, pm13, pz13_0, pz13_1, pm14, pz14_0, pz14_1, pm22, pm23, pm26, pm27, pm28, pm29, pm31, pm32, pm33, pm36, pm37, pm39, pm40, pm41, pl2_0, pl2_1, pl2_2, pl3_0, pl3_1, pl3_2, m_byLaw, if_neg (show ¬ e ≤ 0 by omega), if_neg (show ¬ e = 0 by omega)]
    by_cases hm : g % e = 0
    · simp only [hm, h0, and_self, if_true]
      split <;> rfl
    · simp only [hm, and_false, if_false]
      split <;> rfl
  · simp (disch := omega) only [Option.bind_some, bn2_some, ii_lit, ii_neg, ii_add, ii_sub, ii_mul, ii_le, ii_lt, ii_eq, ii_ite, ii_or, ii_and, ii_bit, ii_rem, ii_div, b0_, b1_, b2_, b3_, true_and, and_true, u1_eq, u1_ne, u2_eq, u2_nk, u2_ni, uP_eq, uP_ne, gk1, gk2, gk3, gk4, gk10, gk11, gk12, gk13, gk14, gk15, gk17, gkr0, gkr7, gkr8, gkr9, gkr16, gkr18, gkr19, gkr5, gkr6, ok0, ok1, ok2, ok3, gl2_0, gl2_1, gl2_2, gl3_0, gl3_1, gl3_2, gm0, gm2, gm3, gm4, gm5, gm6, gm7, gm8, gm9, gm10, gm11, gm13, gm14, gm22, gm23, gm26, gm27, gm28, gm29, gm31, gm32, gm33, gm36, gm37, gm39, gm40, gm41, gm1, gm12, gm15, gm16, gm17, gm18, gm19, gm20, gm21, gm24, gm25, gm30, gm34, gm35, gm38, rk0, sk0, rk9, sk9, rk16, sk16, rk18, sk18, rk19, sk19, rm1, sm1, rm12, sm12, rm15, sm15, rm16, sm16, rm17, sm17, rm18, sm18, rm19, sm19, rm20, sm20, rm21, sm21, rm24, sm24, rm25, sm25, rm30, sm30, rm34, sm34, rm35, sm35, rm38, sm38, pk1, pk2, pk3, pk4, pk10, pk11, pk12, pk13, pk14, pk15, pk17, pkr5, pkr6, pm0, pm2, pm3, pm4, pm5, pm6, pm7, pm8, pm9, pm10, pm11, pm13, pz13_0, pz13_1, pm14, pz14_0, pz14_1, pm22, pm23, pm26, pm27, pm28, pm29, pm31, pm32, pm33, pm36, pm37, pm39, pm40, pm41, pl2_0, pl2_1, pl2_2, pl3_0, pl3_1, pl3_2, m_byLaw, if_pos (show e ≤ 0 by omega)]
    simp only [h0, false_and, if_false]
    split <;> rfl
theorem m_saysBy_L (x : Nat) (F : Nat → Int) (P : Nat → Option Nat) (A : Nat → Int → Int) (f l : Nat → Int) (a : Nat → Int → Int) (b : fk_M) {p s e : Int} {n : Nat} (hp0 : 0 ≤ p) (hp1 : p < 5) (hW : 0 ≤ a 15 0) (hW2 : a 15 0 ≤ 99) (hv : 0 ≤ a 19 p) (hv2 : a 19 p ≤ a 15 0) (hs : 0 ≤ s) (hs2 : s ≤ 20) (hl : 0 ≤ a 15 (8 + p)) (hl2 : a 15 (8 + p) ≤ 3) (he : 0 ≤ e) (he2 : e ≤ 9) (hg : 0 ≤ a 19 35) (hg2 : a 19 35 ≤ 999) (hn : n ≤ 3000) : ∀ (d k N : Nat), k + d = n → d < N → f_X2_saysBy_L11 (some (x + 8)) (ii p) (ii n) (ii s) (ii e) (hp x F P A f l a b) N (ii (tl (a 15) (a 19) p s e k)) (ii ((k : Int) + 1)) = some (ii (tl (a 15) (a 19) p s e n)) := by
  intro d
  induction d with
  | zero =>
    intro k N hk hN
    obtain ⟨N, rfl⟩ : ∃ M, N = M + 1 := ⟨N - 1, by omega⟩
    have hk : k = n := hk
    subst hk
    rw [f_X2_saysBy_L11]
    simp (disch := omega) only [Option.bind_some, bn2_some, ii_lit, ii_neg, ii_add, ii_sub, ii_mul, ii_le, ii_lt, ii_eq, ii_ite, ii_or, ii_and, ii_bit, ii_rem, ii_div, b0_, b1_, b2_, b3_, true_and, and_true, u1_eq, u1_ne, u2_eq, u2_nk, u2_ni, uP_eq, uP_ne, gk1, gk2, gk3, gk4, gk10, gk11, gk12, gk13, gk14, gk15, gk17, gkr0, gkr7, gkr8, gkr9, gkr16, gkr18, gkr19, gkr5, gkr6, ok0, ok1, ok2, ok3, gl2_0, gl2_1, gl2_2, gl3_0, gl3_1, gl3_2, gm0, gm2, gm3, gm4, gm5, gm6, gm7, gm8, gm9, gm10, gm11, gm13, gm14, gm22, gm23, gm26, gm27, gm28, gm29, gm31, gm32, gm33, gm36, gm37, gm39, gm40, gm41, gm1, gm12, gm15, gm16, gm17, gm18, gm19, gm20, gm21, gm24, gm25, gm30, gm34, gm35, gm38, rk0, sk0, rk9, sk9, rk16, sk16, rk18, sk18, rk19, sk19, rm1, sm1, rm12, sm12, rm15, sm15, rm16, sm16, rm17, sm17, rm18, sm18, rm19, sm19, rm20, sm20, rm21, sm21, rm24, sm24, rm25, sm25, rm30, sm30, rm34, sm34, rm35, sm35, rm38, sm38, pk1, pk2, pk3, pk4, pk10, pk11, pk12, pk13, pk14, pk15, pk17, pkr5, pkr6, pm0, pm2, pm3, pm4, pm5, pm6, pm7, pm8, pm9, pm10, pm11, pm13, pz13_0, pz13_1, pm14, pz14_0, pz14_1, pm22, pm23, pm26, pm27, pm28, pm29, pm31, pm32, pm33, pm36, pm37, pm39, pm40, pm41, pl2_0, pl2_1, pl2_2, pl3_0, pl3_1, pl3_2]
    rw [if_pos (by omega)]
  | succ d ih =>
    intro k N hk hN
    obtain ⟨N, rfl⟩ : ∃ M, N = M + 1 := ⟨N - 1, by omega⟩
    have ht := tl_rg (ρ := a 15) (σ := a 19) (p := p) (step := s) (every := e) hW hv hv2 k
    rw [f_X2_saysBy_L11]
    simp (disch := omega) only [Option.bind_some, bn2_some, ii_lit, ii_neg, ii_add, ii_sub, ii_mul, ii_le, ii_lt, ii_eq, ii_ite, ii_or, ii_and, ii_bit, ii_rem, ii_div, b0_, b1_, b2_, b3_, true_and, and_true, u1_eq, u1_ne, u2_eq, u2_nk, u2_ni, uP_eq, uP_ne, gk1, gk2, gk3, gk4, gk10, gk11, gk12, gk13, gk14, gk15, gk17, gkr0, gkr7, gkr8, gkr9, gkr16, gkr18, gkr19, gkr5, gkr6, ok0, ok1, ok2, ok3, gl2_0, gl2_1, gl2_2, gl3_0, gl3_1, gl3_2, gm0, gm2, gm3, gm4, gm5, gm6, gm7, gm8, gm9, gm10, gm11, gm13, gm14, gm22, gm23, gm26, gm27, gm28, gm29, gm31, gm32, gm33, gm36, gm37, gm39, gm40, gm41, gm1, gm12, gm15, gm16, gm17, gm18, gm19, gm20, gm21, gm24, gm25, gm30, gm34, gm35, gm38, rk0, sk0, rk9, sk9, rk16, sk16, rk18, sk18, rk19, sk19, rm1, sm1, rm12, sm12, rm15, sm15, rm16, sm16, rm17, sm17, rm18, sm18, rm19, sm19, rm20, sm20, rm21, sm21, rm24, sm24, rm25, sm25, rm30, sm30, rm34, sm34, rm35, sm35, rm38, sm38, pk1, pk2, pk3, pk4, pk10, pk11, pk12, pk13, pk14, pk15, pk17, pkr5, pkr6, pm0, pm2, pm3, pm4, pm5, pm6, pm7, pm8, pm9, pm10, pm11, pm13, pz13_0, pz13_1, pm14, pz14_0, pz14_1, pm22, pm23, pm26, pm27, pm28, pm29, pm31, pm32, pm33, pm36, pm37, pm39, pm40, pm41, pl2_0, pl2_1, pl2_2, pl3_0, pl3_1, pl3_2, m_behind]
    rw [if_neg (by omega)]
    exact ih (k + 1) N (by omega) (by omega)
theorem m_saysBy (x : Nat) (F : Nat → Int) (P : Nat → Option Nat) (A : Nat → Int → Int) (f l : Nat → Int) (a : Nat → Int → Int) (b : fk_M) {p s e : Int} {n : Nat} (hp0 : 0 ≤ p) (hp1 : p < 5) (hW : 0 ≤ a 15 0) (hW2 : a 15 0 ≤ 99) (hv : 0 ≤ a 19 p) (hv2 : a 19 p ≤ a 15 0) (hs : 0 ≤ s) (hs2 : s ≤ 20) (hl : 0 ≤ a 15 (8 + p)) (hl2 : a 15 (8 + p) ≤ 3) (he : 0 ≤ e) (he2 : e ≤ 9) (hg : 0 ≤ a 19 35) (hg2 : a 19 35 ≤ 999) (hn : n ≤ 3000) : f_X2_saysBy (some (x + 8)) (ii p) (ii n) (ii s) (ii e) (hp x F P A f l a b) = some (ii (tl (a 15) (a 19) p s e n)) := by
  unfold f_X2_saysBy
  have h := m_saysBy_L x F P A f l a b hp0 hp1 hW hW2 hv hv2 hs hs2 hl hl2 he he2 hg hg2 hn n 0 fk_fuel (by omega) (by unfold fk_fuel; omega)
  simp (disch := omega) only [Option.bind_some, bn2_some, ii_lit, ii_neg, ii_add, ii_sub, ii_mul, ii_le, ii_lt, ii_eq, ii_ite, ii_or, ii_and, ii_bit, ii_rem, ii_div, b0_, b1_, b2_, b3_, true_and, and_true, u1_eq, u1_ne, u2_eq, u2_nk, u2_ni, uP_eq, uP_ne, gk1, gk2, gk3, gk4, gk10, gk11, gk12, gk13, gk14, gk15, gk17, gkr0, gkr7, gkr8, gkr9, gkr16, gkr18, gkr19, gkr5, gkr6, ok0, ok1, ok2, ok3, gl2_0, gl2_1, gl2_2, gl3_0, gl3_1, gl3_2, gm0, gm2, gm3, gm4, gm5, gm6, gm7, gm8, gm9, gm10, gm11, gm13, gm14, gm22, gm23, gm26, gm27, gm28, gm29, gm31, gm32, gm33, gm36, gm37, gm39, gm40, gm41, gm1, gm12, gm15, gm16, gm17, gm18, gm19, gm20, gm21, gm24, gm25, gm30, gm34, gm35, gm38, rk0, sk0, rk9, sk9, rk16, sk16, rk18, sk18, rk19, sk19, rm1, sm1, rm12, sm12, rm15, sm15, rm16, sm16, rm17, sm17, rm18, sm18, rm19, sm19, rm20, sm20, rm21, sm21, rm24, sm24, rm25, sm25, rm30, sm30, rm34, sm34, rm35, sm35, rm38, sm38, pk1, pk2, pk3, pk4, pk10, pk11, pk12, pk13, pk14, pk15, pk17, pkr5, pkr6, pm0, pm2, pm3, pm4, pm5, pm6, pm7, pm8, pm9, pm10, pm11, pm13, pz13_0, pz13_1, pm14, pz14_0, pz14_1, pm22, pm23, pm26, pm27, pm28, pm29, pm31, pm32, pm33, pm36, pm37, pm39, pm40, pm41, pl2_0, pl2_1, pl2_2, pl3_0, pl3_1, pl3_2]
  exact h
end MDL
