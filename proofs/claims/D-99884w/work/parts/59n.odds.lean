/-! PLAIN 9e: dumb seasons: the model -/
set_option maxRecDepth 100000
theorem jo (a : Int) : Int64.ofInt a = jj a := rfl
theorem pj39 (x : Nat) (F : Nat → Int) (P : Nat → Option Nat) (A : Nat → Int → Int) (f l : Nat → Int) (a : Nat → Int → Int) (b : fk_M) (v : Int) : pV (hp x F P A f l a b) (some (x + 8)) 1 39 (tL (jj v)) = some (hp x F P A f (u1 l 39 v) a b) := pm39 ..
theorem pj40 (x : Nat) (F : Nat → Int) (P : Nat → Option Nat) (A : Nat → Int → Int) (f l : Nat → Int) (a : Nat → Int → Int) (b : fk_M) (v : Int) : pV (hp x F P A f l a b) (some (x + 8)) 1 40 (tL (jj v)) = some (hp x F P A f (u1 l 40 v) a b) := pm40 ..
theorem pj41 (x : Nat) (F : Nat → Int) (P : Nat → Option Nat) (A : Nat → Int → Int) (f l : Nat → Int) (a : Nat → Int → Int) (b : fk_M) (v : Int) : pV (hp x F P A f l a b) (some (x + 8)) 1 41 (tL (jj v)) = some (hp x F P A f (u1 l 41 v) a b) := pm41 ..
theorem jj_ite {c : Prop} [Decidable c] (a b : Int) : (if c then jj a else jj b) = jj (if c then a else b) := by
  split <;> rfl
def wv (ρ σ : Int → Int) (p s : Int) (u : Int × Int) (k : Int) : Int × Int := (u.1 * (if hb s k then ρ 1 else 100 - ρ 1), bh ρ p u.2 (σ (5 + p)) (ρ (13 + p)) (σ 35 + k + 1) (if hb s k then 1 else 0))
def wvn (ρ σ : Int → Int) (p n s : Int) : Int × Int := itr (wv ρ σ p s) n.toNat 0 (1, σ p)
def tds (ρ σ : Int → Int) (p n much : Int) (u : Int × Int × Int) (s : Int) : Int × Int × Int := (u.1 + (wvn ρ σ p n s).1, u.2.1 + (if (wvn ρ σ p n s).2 < much then 0 else (wvn ρ σ p n s).1), u.2.2 + (wvn ρ σ p n s).1 * (wvn ρ σ p n s).2)
def tdn (ρ σ : Int → Int) (p n much : Int) : Int × Int × Int := itr (tds ρ σ p n much) (p2 n).toNat 0 (0, 0, 0)
theorem wvn_2 {ρ τ σ : Int → Int} (hR : Rg ρ τ σ) {p : Int} (h0 : 0 ≤ p) (h1 : p < ρ 2) (n s : Int) : 0 ≤ (wvn ρ σ p n s).2 ∧ (wvn ρ σ p n s).2 ≤ ρ 0 := by
  have hw := hR.wd
  have hq := hR.pr h0 h1
  unfold wvn
  refine itr_iv (s := wv ρ σ p s) (fun u => 0 ≤ u.2 ∧ u.2 ≤ ρ 0) (lo := 0) (hi := n.toNat) (fun u k _ _ hu => ?_) n.toNat 0 (1, σ p) (by omega) (by omega) hq.1.2.2.2.2.1
  exact bh_rg (by omega) hu.1 hu.2
theorem m_dumb40 (x : Nat) (F : Nat → Int) (P : Nat → Option Nat) (A : Nat → Int → Int) (f l : Nat → Int) (a : Nat → Int → Int) (b : fk_M) {p n much s : Int} (hR : Rg (a 15) (a 17) (a 19)) (h0 : 0 ≤ p) (h1 : p < a 15 2) (hn : 0 ≤ n) (hn2 : n ≤ 5) (hm : rg much) (R : Int32 → fk_M → Option fk_M) : f_X2_tryDumb_L40 R (some (x + 8)) (ii p) (ii n) (ii much) (ii s) (hp x F P A f l a b) fk_fuel (jj 1) (ii (a 19 p)) (ii 0) = R (ii (s + 1)) (hp x F P A f (u1 (u1 (u1 l 39 (l 39 + (wvn (a 15) (a 19) p n s).1)) 40 (l 40 + (if (wvn (a 15) (a 19) p n s).2 < much then 0 else (wvn (a 15) (a 19) p n s).1))) 41 (l 41 + (wvn (a 15) (a 19) p n s).1 * (wvn (a 15) (a 19) p n s).2)) a b) := by
  have hw := hR.wd
  have hq := hR.pr h0 h1
  refine (loop_it (fun N (u : Int × Int) k => f_X2_tryDumb_L40 R (some (x + 8)) (ii p) (ii n) (ii much) (ii s) (hp x F P A f l a b) N (jj u.1) (ii u.2) (ii k)) (wv (a 15) (a 19) p s) (fun u => R (ii (s + 1)) (hp x F P A f (u1 (u1 (u1 l 39 (l 39 + u.1)) 40 (l 40 + (if u.2 < much then 0 else u.1))) 41 (l 41 + u.1 * u.2)) a b)) (fun u k => 0 ≤ u.2 ∧ u.2 ≤ a 15 0) (lo := 0) (hi := n) ?_ ?_ n.toNat fk_fuel (1, a 19 p) 0 (by omega) (by omega) (by unfold fk_fuel; omega) hq.1.2.2.2.2.1).1
  · intro N u hu
    try dsimp only
    rw [f_X2_tryDumb_L40]
    simp (disch := first | omega | assumption) only [Option.bind_some, bn2_some, ii_lit, ii_neg, ii_add, ii_sub, ii_mul, ii_le, ii_lt, ii_eq, ii_ite, ii_or, ii_and, ii_bit, ii_rem, ii_div, b0_, b1_, b2_, b3_, true_and, and_true, u1_eq, u1_ne, u2_eq, u2_nk, u2_ni, uP_eq, uP_ne, gk1, gk2, gk3, gk4, gk10, gk11, gk12, gk13, gk14, gk15, gk17, gkr0, gkr7, gkr8, gkr9, gkr16, gkr18, gkr19, gkr5, gkr6, ok0, ok1, ok2, ok3, gl2_0, gl2_1, gl2_2, gl3_0, gl3_1, gl3_2, gm0, gm2, gm3, gm4, gm5, gm6, gm7, gm8, gm9, gm10, gm11, gm13, gm14, gm22, gm23, gm26, gm27, gm28, gm29, gm31, gm32, gm33, gm36, gm37, gm39, gm40, gm41, gm1, gm12, gm15, gm16, gm17, gm18, gm19, gm20, gm21, gm24, gm25, gm30, gm34, gm35, gm38, rk0, sk0, rk9, sk9, rk16, sk16, rk18, sk18, rk19, sk19, rm1, sm1, rm12, sm12, rm15, sm15, rm16, sm16, rm17, sm17, rm18, sm18, rm19, sm19, rm20, sm20, rm21, sm21, rm24, sm24, rm25, sm25, rm30, sm30, rm34, sm34, rm35, sm35, rm38, sm38, pk1, pk2, pk3, pk4, pk10, pk11, pk12, pk13, pk14, pk15, pk17, pkr5, pkr6, pm0, pm2, pm3, pm4, pm5, pm6, pm7, pm8, pm9, pm10, pm11, pm13, pz13_0, pz13_1, pm14, pz14_0, pz14_1, pm22, pm23, pm26, pm27, pm28, pm29, pm31, pm32, pm33, pm36, pm37, pm39, pm40, pm41, pl2_0, pl2_1, pl2_2, pl3_0, pl3_1, pl3_2, jo, jj_lit, jj_of, jj_add, jj_mul, jj_ite, pj39, pj40, pj41]
    rw [if_pos (by omega)]
  · intro N u k k1 k2 hu
    refine ⟨bh_rg (by omega) hu.1 hu.2, ?_⟩
    have e1 := m_behind x F P A f l a b (p := p) (v := u.2) (s := a 19 (5 + p)) (e := a 15 (13 + p)) (g := a 19 35 + k + 1) (d := if hb s k then 1 else 0) h0 (by omega) (by omega) (by omega) hu.1 hu.2 (by omega) (by omega) (by omega) (by omega) (by omega) (by omega) (by omega) (by omega) (by split <;> omega) (by split <;> omega)
    try dsimp only
    rw [f_X2_tryDumb_L40]
    simp (disch := first | omega | assumption) only [Option.bind_some, bn2_some, ii_lit, ii_neg, ii_add, ii_sub, ii_mul, ii_le, ii_lt, ii_eq, ii_ite, ii_or, ii_and, ii_bit, ii_rem, ii_div, b0_, b1_, b2_, b3_, true_and, and_true, u1_eq, u1_ne, u2_eq, u2_nk, u2_ni, uP_eq, uP_ne, gk1, gk2, gk3, gk4, gk10, gk11, gk12, gk13, gk14, gk15, gk17, gkr0, gkr7, gkr8, gkr9, gkr16, gkr18, gkr19, gkr5, gkr6, ok0, ok1, ok2, ok3, gl2_0, gl2_1, gl2_2, gl3_0, gl3_1, gl3_2, gm0, gm2, gm3, gm4, gm5, gm6, gm7, gm8, gm9, gm10, gm11, gm13, gm14, gm22, gm23, gm26, gm27, gm28, gm29, gm31, gm32, gm33, gm36, gm37, gm39, gm40, gm41, gm1, gm12, gm15, gm16, gm17, gm18, gm19, gm20, gm21, gm24, gm25, gm30, gm34, gm35, gm38, rk0, sk0, rk9, sk9, rk16, sk16, rk18, sk18, rk19, sk19, rm1, sm1, rm12, sm12, rm15, sm15, rm16, sm16, rm17, sm17, rm18, sm18, rm19, sm19, rm20, sm20, rm21, sm21, rm24, sm24, rm25, sm25, rm30, sm30, rm34, sm34, rm35, sm35, rm38, sm38, pk1, pk2, pk3, pk4, pk10, pk11, pk12, pk13, pk14, pk15, pk17, pkr5, pkr6, pm0, pm2, pm3, pm4, pm5, pm6, pm7, pm8, pm9, pm10, pm11, pm13, pz13_0, pz13_1, pm14, pz14_0, pz14_1, pm22, pm23, pm26, pm27, pm28, pm29, pm31, pm32, pm33, pm36, pm37, pm39, pm40, pm41, pl2_0, pl2_1, pl2_2, pl3_0, pl3_1, pl3_2, m_hasBit, f_X2_tryDumb_J78, e1, jj_of, jj_mul]
    rw [if_neg (by omega)]
    unfold wv
    (repeat' split) <;> first | rfl | contradiction
theorem m_tryDumb (x : Nat) (F : Nat → Int) (P : Nat → Option Nat) (A : Nat → Int → Int) (f l : Nat → Int) (a : Nat → Int → Int) (b : fk_M) {p n much : Int} (hR : Rg (a 15) (a 17) (a 19)) (h0 : 0 ≤ p) (h1 : p < a 15 2) (hn : 0 ≤ n) (hn2 : n ≤ 5) (hm : rg much) : ∃ l', f_X2_tryDumb (some (x + 8)) (ii p) (ii n) (ii much) (hp x F P A f l a b) = some (hp x F P A f l' a b) ∧ l' 39 = (tdn (a 15) (a 19) p n much).1 ∧ l' 40 = (tdn (a 15) (a 19) p n much).2.1 ∧ l' 41 = (tdn (a 15) (a 19) p n much).2.2 := by
  have hw := hR.wd
  have hq := hR.pr h0 h1
  have hp2 := p2_rg hn hn2
  unfold f_X2_tryDumb
  have hL := loop_ex (fun N (u : Int × Int × Int) k (y : Nat → Int) => f_X2_tryDumb_L18 (some (x + 8)) (ii p) (ii n) (ii much) N (ii k) (hp x F P A f y a b)) (tds (a 15) (a 19) p n much) (fun u y => some (hp x F P A f y a b)) (fun u k y => y 39 = u.1 ∧ y 40 = u.2.1 ∧ y 41 = u.2.2) (lo := 0) (hi := p2 n) ?_ ?_ (p2 n).toNat fk_fuel (0, 0, 0) 0 (u1 (u1 (u1 l 39 0) 40 0) 41 0) (by omega) (by omega) (by unfold fk_fuel; omega) ⟨(u1_ne _ _ (by omega)).trans ((u1_ne _ _ (by omega)).trans (u1_eq ..)), (u1_ne _ _ (by omega)).trans (u1_eq ..), u1_eq ..⟩
  · obtain ⟨l', e1, e2⟩ := hL
    refine ⟨l', ?_, e2⟩
    simp (disch := first | omega | assumption) only [Option.bind_some, bn2_some, ii_lit, ii_neg, ii_add, ii_sub, ii_mul, ii_le, ii_lt, ii_eq, ii_ite, ii_or, ii_and, ii_bit, ii_rem, ii_div, b0_, b1_, b2_, b3_, true_and, and_true, u1_eq, u1_ne, u2_eq, u2_nk, u2_ni, uP_eq, uP_ne, gk1, gk2, gk3, gk4, gk10, gk11, gk12, gk13, gk14, gk15, gk17, gkr0, gkr7, gkr8, gkr9, gkr16, gkr18, gkr19, gkr5, gkr6, ok0, ok1, ok2, ok3, gl2_0, gl2_1, gl2_2, gl3_0, gl3_1, gl3_2, gm0, gm2, gm3, gm4, gm5, gm6, gm7, gm8, gm9, gm10, gm11, gm13, gm14, gm22, gm23, gm26, gm27, gm28, gm29, gm31, gm32, gm33, gm36, gm37, gm39, gm40, gm41, gm1, gm12, gm15, gm16, gm17, gm18, gm19, gm20, gm21, gm24, gm25, gm30, gm34, gm35, gm38, rk0, sk0, rk9, sk9, rk16, sk16, rk18, sk18, rk19, sk19, rm1, sm1, rm12, sm12, rm15, sm15, rm16, sm16, rm17, sm17, rm18, sm18, rm19, sm19, rm20, sm20, rm21, sm21, rm24, sm24, rm25, sm25, rm30, sm30, rm34, sm34, rm35, sm35, rm38, sm38, pk1, pk2, pk3, pk4, pk10, pk11, pk12, pk13, pk14, pk15, pk17, pkr5, pkr6, pm0, pm2, pm3, pm4, pm5, pm6, pm7, pm8, pm9, pm10, pm11, pm13, pz13_0, pz13_1, pm14, pz14_0, pz14_1, pm22, pm23, pm26, pm27, pm28, pm29, pm31, pm32, pm33, pm36, pm37, pm39, pm40, pm41, pl2_0, pl2_1, pl2_2, pl3_0, pl3_1, pl3_2, jj_lit, pj39, pj40, pj41]
    exact e1
  · intro N u y hy
    try dsimp only
    rw [f_X2_tryDumb_L18]
    simp (disch := first | omega | assumption) only [Option.bind_some, bn2_some, ii_lit, ii_neg, ii_add, ii_sub, ii_mul, ii_le, ii_lt, ii_eq, ii_ite, ii_or, ii_and, ii_bit, ii_rem, ii_div, b0_, b1_, b2_, b3_, true_and, and_true, u1_eq, u1_ne, u2_eq, u2_nk, u2_ni, uP_eq, uP_ne, gk1, gk2, gk3, gk4, gk10, gk11, gk12, gk13, gk14, gk15, gk17, gkr0, gkr7, gkr8, gkr9, gkr16, gkr18, gkr19, gkr5, gkr6, ok0, ok1, ok2, ok3, gl2_0, gl2_1, gl2_2, gl3_0, gl3_1, gl3_2, gm0, gm2, gm3, gm4, gm5, gm6, gm7, gm8, gm9, gm10, gm11, gm13, gm14, gm22, gm23, gm26, gm27, gm28, gm29, gm31, gm32, gm33, gm36, gm37, gm39, gm40, gm41, gm1, gm12, gm15, gm16, gm17, gm18, gm19, gm20, gm21, gm24, gm25, gm30, gm34, gm35, gm38, rk0, sk0, rk9, sk9, rk16, sk16, rk18, sk18, rk19, sk19, rm1, sm1, rm12, sm12, rm15, sm15, rm16, sm16, rm17, sm17, rm18, sm18, rm19, sm19, rm20, sm20, rm21, sm21, rm24, sm24, rm25, sm25, rm30, sm30, rm34, sm34, rm35, sm35, rm38, sm38, pk1, pk2, pk3, pk4, pk10, pk11, pk12, pk13, pk14, pk15, pk17, pkr5, pkr6, pm0, pm2, pm3, pm4, pm5, pm6, pm7, pm8, pm9, pm10, pm11, pm13, pz13_0, pz13_1, pm14, pz14_0, pz14_1, pm22, pm23, pm26, pm27, pm28, pm29, pm31, pm32, pm33, pm36, pm37, pm39, pm40, pm41, pl2_0, pl2_1, pl2_2, pl3_0, pl3_1, pl3_2, ii_shl1]
    rw [if_pos (by omega)]
  · intro N u k y k1 k2 hy
    have e1 := m_dumb40 x F P A f y a b (p := p) (n := n) (much := much) (s := k) hR h0 h1 hn hn2 hm (f_X2_tryDumb_L18 (some (x + 8)) (ii p) (ii n) (ii much) N)
    refine ⟨u1 (u1 (u1 y 39 (y 39 + (wvn (a 15) (a 19) p n k).1)) 40 (y 40 + (if (wvn (a 15) (a 19) p n k).2 < much then 0 else (wvn (a 15) (a 19) p n k).1))) 41 (y 41 + (wvn (a 15) (a 19) p n k).1 * (wvn (a 15) (a 19) p n k).2), ?_, ?_⟩
    rotate_left
    · try dsimp only
      rw [f_X2_tryDumb_L18]
      simp (disch := first | omega | assumption) only [Option.bind_some, bn2_some, ii_lit, ii_neg, ii_add, ii_sub, ii_mul, ii_le, ii_lt, ii_eq, ii_ite, ii_or, ii_and, ii_bit, ii_rem, ii_div, b0_, b1_, b2_, b3_, true_and, and_true, u1_eq, u1_ne, u2_eq, u2_nk, u2_ni, uP_eq, uP_ne, gk1, gk2, gk3, gk4, gk10, gk11, gk12, gk13, gk14, gk15, gk17, gkr0, gkr7, gkr8, gkr9, gkr16, gkr18, gkr19, gkr5, gkr6, ok0, ok1, ok2, ok3, gl2_0, gl2_1, gl2_2, gl3_0, gl3_1, gl3_2, gm0, gm2, gm3, gm4, gm5, gm6, gm7, gm8, gm9, gm10, gm11, gm13, gm14, gm22, gm23, gm26, gm27, gm28, gm29, gm31, gm32, gm33, gm36, gm37, gm39, gm40, gm41, gm1, gm12, gm15, gm16, gm17, gm18, gm19, gm20, gm21, gm24, gm25, gm30, gm34, gm35, gm38, rk0, sk0, rk9, sk9, rk16, sk16, rk18, sk18, rk19, sk19, rm1, sm1, rm12, sm12, rm15, sm15, rm16, sm16, rm17, sm17, rm18, sm18, rm19, sm19, rm20, sm20, rm21, sm21, rm24, sm24, rm25, sm25, rm30, sm30, rm34, sm34, rm35, sm35, rm38, sm38, pk1, pk2, pk3, pk4, pk10, pk11, pk12, pk13, pk14, pk15, pk17, pkr5, pkr6, pm0, pm2, pm3, pm4, pm5, pm6, pm7, pm8, pm9, pm10, pm11, pm13, pz13_0, pz13_1, pm14, pz14_0, pz14_1, pm22, pm23, pm26, pm27, pm28, pm29, pm31, pm32, pm33, pm36, pm37, pm39, pm40, pm41, pl2_0, pl2_1, pl2_2, pl3_0, pl3_1, pl3_2, ii_shl1, jj_lit]
      rw [if_neg (by omega)]
      exact e1
    · obtain ⟨y1, y2, y3⟩ := hy
      refine ⟨?_, ?_, ?_⟩
      · exact ((u1_ne _ _ (by omega)).trans ((u1_ne _ _ (by omega)).trans (u1_eq ..))).trans (by rw [y1]; rfl)
      · exact ((u1_ne _ _ (by omega)).trans (u1_eq ..)).trans (by rw [y2]; rfl)
      · exact (u1_eq ..).trans (by rw [y3]; rfl)
def wt (d s : Int) (n : Nat) : Int := itr (fun u k => u * (if hb s k then d else 100 - d)) n 0 1
set_option maxHeartbeats 4000000 in
theorem wt_sumF : ∀ d : Fin 101, ∀ n : Fin 6, itr (fun u s => u + wt (d.val : Int) s n.val) (p2 n.val).toNat 0 0 = 100 ^ n.val := by decide +kernel
theorem wt_sum {d n : Int} (h0 : 0 ≤ d) (h1 : d ≤ 100) (h2 : 0 ≤ n) (h3 : n ≤ 5) : itr (fun u s => u + wt d s n.toNat) (p2 n).toNat 0 0 = 100 ^ n.toNat := by
  have h := wt_sumF ⟨d.toNat, by omega⟩ ⟨n.toNat, by omega⟩
  have e1 : ((d.toNat : Nat) : Int) = d := Int.toNat_of_nonneg h0
  have e2 : ((n.toNat : Nat) : Int) = n := Int.toNat_of_nonneg h2
  simp only [e1, e2] at h
  exact h
theorem wvn_1 (ρ σ : Int → Int) (p n s : Int) : (wvn ρ σ p n s).1 = wt (ρ 1) s n.toNat := by
  have h : ∀ (d : Nat) (k : Int) (u : Int × Int), (itr (wv ρ σ p s) d k u).1 = itr (fun u k => u * (if hb s k then ρ 1 else 100 - ρ 1)) d k u.1 := by
    intro d
    induction d with
    | zero => intro k u; rfl
    | succ d ih => intro k u; exact ih (k + 1) _
  exact h n.toNat 0 (1, σ p)
theorem wt_pos {d : Int} (h0 : 0 ≤ d) (h1 : d ≤ 100) (s : Int) (n : Nat) : 0 ≤ wt d s n := by
  unfold wt
  refine itr_iv (fun u => 0 ≤ u) (lo := 0) (hi := n) (fun u k _ _ hu => ?_) n 0 1 (by omega) (by omega) (by omega)
  exact Int.mul_nonneg hu (by split <;> omega)
theorem tdn_rg {ρ τ σ : Int → Int} (hR : Rg ρ τ σ) {p n : Int} (much : Int) (h0 : 0 ≤ p) (h1 : p < ρ 2) (h2 : 0 ≤ n) (h3 : n ≤ 5) : (tdn ρ σ p n much).1 = 100 ^ n.toNat ∧ (0 ≤ (tdn ρ σ p n much).2.1 ∧ (tdn ρ σ p n much).2.1 ≤ 100 ^ n.toNat) ∧ (0 ≤ (tdn ρ σ p n much).2.2 ∧ (tdn ρ σ p n much).2.2 ≤ 99 * 100 ^ n.toNat) := by
  have hw := hR.wd
  have hs := wt_sum (d := ρ 1) (n := n) (by omega) (by omega) h2 h3
  have h : ∀ (d : Nat) (k : Int) (u : Int × Int × Int), (0 ≤ u.2.1 ∧ u.2.1 ≤ u.1) ∧ (0 ≤ u.2.2 ∧ u.2.2 ≤ 99 * u.1) → (itr (tds ρ σ p n much) d k u).1 = itr (fun u s => u + wt (ρ 1) s n.toNat) d k u.1 ∧ (0 ≤ (itr (tds ρ σ p n much) d k u).2.1 ∧ (itr (tds ρ σ p n much) d k u).2.1 ≤ (itr (tds ρ σ p n much) d k u).1) ∧ (0 ≤ (itr (tds ρ σ p n much) d k u).2.2 ∧ (itr (tds ρ σ p n much) d k u).2.2 ≤ 99 * (itr (tds ρ σ p n much) d k u).1) := by
    intro d
    induction d with
    | zero => intro k u hu; exact ⟨rfl, hu.1, hu.2⟩
    | succ d ih =>
      intro k u hu
      have hp := wt_pos (d := ρ 1) (by omega) (by omega) k n.toNat
      have hv := wvn_2 hR h0 h1 n k
      have e1 := wvn_1 ρ σ p n k
      have m1 : 0 ≤ wt (ρ 1) k n.toNat * (wvn ρ σ p n k).2 := Int.mul_nonneg hp hv.1
      have m2 : wt (ρ 1) k n.toNat * (wvn ρ σ p n k).2 ≤ wt (ρ 1) k n.toNat * 99 := Int.mul_le_mul_of_nonneg_left (by omega) hp
      have hi := ih (k + 1) (tds ρ σ p n much u k) (by
        show (0 ≤ u.2.1 + (if (wvn ρ σ p n k).2 < much then 0 else (wvn ρ σ p n k).1) ∧ u.2.1 + (if (wvn ρ σ p n k).2 < much then 0 else (wvn ρ σ p n k).1) ≤ u.1 + (wvn ρ σ p n k).1) ∧ (0 ≤ u.2.2 + (wvn ρ σ p n k).1 * (wvn ρ σ p n k).2 ∧ u.2.2 + (wvn ρ σ p n k).1 * (wvn ρ σ p n k).2 ≤ 99 * (u.1 + (wvn ρ σ p n k).1))
        rw [e1]
        constructor
        · split <;> omega
        · omega)
      refine ⟨?_, hi.2⟩
      refine hi.1.trans ?_
      show itr (fun u s => u + wt (ρ 1) s n.toNat) d (k + 1) (u.1 + (wvn ρ σ p n k).1) = itr (fun u s => u + wt (ρ 1) s n.toNat) d (k + 1) (u.1 + wt (ρ 1) k n.toNat)
      rw [e1]
  have hh := h (p2 n).toNat 0 (0, 0, 0) ⟨⟨Int.le_refl 0, Int.le_refl 0⟩, ⟨Int.le_refl 0, Int.le_refl 0⟩⟩
  have e1 : (tdn ρ σ p n much).1 = 100 ^ n.toNat := hh.1.trans hs
  refine ⟨e1, ?_, ?_⟩
  · rw [← e1]
    exact hh.2.1
  · rw [← e1]
    exact hh.2.2
/-- a fraction in lowest terms, one of its two sides -/
def frc (x y : Int) (c : Int32) : Int64 := (if c = 0 then jj x else jj y) / jj (Nat.gcd x.toNat y.toNat)
theorem m_low (m : fk_M) (c : Int32) {x y : Int} (h0 : 0 ≤ x) (h1 : x ≤ 9223372036854775807) (h2 : y ≤ 9223372036854775807) (h3 : 0 < y) : f_X2_lowest (jj x) (jj y) c m = some (frc x y c) := by
  have h := m_lowest m c (x := x.toNat) (y := y.toNat) (by omega) (by omega) (by omega)
  rw [Int.toNat_of_nonneg h0, Int.toNat_of_nonneg (show 0 ≤ y by omega)] at h
  exact h
theorem k_fraction (x : Nat) (F : Nat → Int) (P : Nat → Option Nat) (A : Nat → Int → Int) (f l : Nat → Int) (a : Nat → Int → Int) (b : fk_M) (c : Int32) {u v : Int} (h0 : 0 ≤ u) (h1 : u ≤ 9223372036854775807) (h2 : v ≤ 9223372036854775807) (h3 : 0 < v) : f_X1_fraction (some x) (jj u) (jj v) c (hp x F P A f l a b) = some (frc u v c, hp x (u1 (u1 F 4 0) 3 (-1)) P A f l a b) := by
  unfold f_X1_fraction
  have h := k_common (hp x (u1 (u1 F 4 0) 3 (-1)) P A f l a b) (x := u.toNat) (y := v.toNat) (by omega) (by omega)
  rw [Int.toNat_of_nonneg h0, Int.toNat_of_nonneg (show 0 ≤ v by omega)] at h
  have hw : f_X1_well (some x) 0 (hp x F P A f l a b) = some (0, hp x (u1 (u1 F 4 0) 3 (-1)) P A f l a b) := by
    unfold f_X1_well
    simp (disch := first | omega | assumption) only [Option.bind_some, bn2_some, ii_lit, ii_neg, ii_add, ii_sub, ii_mul, ii_le, ii_lt, ii_eq, ii_ite, ii_or, ii_and, ii_bit, ii_rem, ii_div, b0_, b1_, b2_, b3_, true_and, and_true, u1_eq, u1_ne, u2_eq, u2_nk, u2_ni, uP_eq, uP_ne, gk1, gk2, gk3, gk4, gk10, gk11, gk12, gk13, gk14, gk15, gk17, gkr0, gkr7, gkr8, gkr9, gkr16, gkr18, gkr19, gkr5, gkr6, ok0, ok1, ok2, ok3, gl2_0, gl2_1, gl2_2, gl3_0, gl3_1, gl3_2, gm0, gm2, gm3, gm4, gm5, gm6, gm7, gm8, gm9, gm10, gm11, gm13, gm14, gm22, gm23, gm26, gm27, gm28, gm29, gm31, gm32, gm33, gm36, gm37, gm39, gm40, gm41, gm1, gm12, gm15, gm16, gm17, gm18, gm19, gm20, gm21, gm24, gm25, gm30, gm34, gm35, gm38, rk0, sk0, rk9, sk9, rk16, sk16, rk18, sk18, rk19, sk19, rm1, sm1, rm12, sm12, rm15, sm15, rm16, sm16, rm17, sm17, rm18, sm18, rm19, sm19, rm20, sm20, rm21, sm21, rm24, sm24, rm25, sm25, rm30, sm30, rm34, sm34, rm35, sm35, rm38, sm38, pk1, pk2, pk3, pk4, pk10, pk11, pk12, pk13, pk14, pk15, pk17, pkr5, pkr6, pm0, pm2, pm3, pm4, pm5, pm6, pm7, pm8, pm9, pm10, pm11, pm13, pz13_0, pz13_1, pm14, pz14_0, pz14_1, pm22, pm23, pm26, pm27, pm28, pm29, pm31, pm32, pm33, pm36, pm37, pm39, pm40, pm41, pl2_0, pl2_1, pl2_2, pl3_0, pl3_1, pl3_2]
  have hg : 0 < Nat.gcd u.toNat v.toNat := Nat.gcd_pos_of_pos_right _ (by omega)
  have hg2 : Nat.gcd u.toNat v.toNat ≤ v.toNat := Nat.gcd_le_right _ (by omega)
  have e : (jj (Nat.gcd u.toNat v.toNat : Nat) = (0 : Int64)) = (((Nat.gcd u.toNat v.toNat : Nat) : Int) = 0) := jj_eq (b := 0) ⟨by omega, by omega⟩ ⟨by omega, by omega⟩
  rw [ok0, Option.bind_some, hw, bn2_some, h, Option.bind_some, if_neg (fun h => by have := e.mp h; omega)]
  rfl
def ML (x : Nat) (F : Nat → Int) (P : Nat → Option Nat) (A : Nat → Int → Int) (f l : Nat → Int) (a : Nat → Int → Int) (b : fk_M) (z : Int64) (w : Int) (res : Option (Int64 × fk_M)) : Prop := ∃ f' l' a', res = some (z, hp x F P A f' l' a' b) ∧ f' 0 = 0 ∧ f' 11 = w ∧ mk f f' ∧ ma a a'
theorem ML.of {x : Nat} {F : Nat → Int} {P : Nat → Option Nat} {A : Nat → Int → Int} {f l : Nat → Int} {a : Nat → Int → Int} {b : fk_M} {z : Int64} {w : Int} {res : Option (Int64 × fk_M)} (l' : Nat → Int) (h : res = some (z, hp x F P A (fo f w) l' a b)) : ML x F P A f l a b z w res := ⟨fo f w, l', a, h, (u1_ne _ _ (by omega)).trans (u1_eq ..), u1_eq .., mk.o .., ma.rfl' _⟩
theorem pw_rg {n : Int} (h0 : 0 ≤ n) (h1 : n ≤ 5) : 1 ≤ (100 : Int) ^ n.toNat ∧ (100 : Int) ^ n.toNat ≤ 10000000000 := by
  have : n = 0 ∨ n = 1 ∨ n = 2 ∨ n = 3 ∨ n = 4 ∨ n = 5 := by omega
  rcases this with rfl | rfl | rfl | rfl | rfl | rfl <;> decide
def s_mean (h : Int) (ρ σ : Int → Int) (p n : Int) (c : Int32) : Int64 := if wy (h = 1 ∧ 0 ≤ p ∧ p < ρ 2) (0 ≤ n ∧ n ≤ 5) = 0 then frc (tdn ρ σ p n 0).2.2 (100 ^ n.toNat) c else Int32.toInt64 (ii (-1))
theorem m_mean (x : Nat) (F : Nat → Int) (P : Nat → Option Nat) (A : Nat → Int → Int) (f l : Nat → Int) (a : Nat → Int → Int) (b : fk_M) {p n : Int} (c : Int32) (hp0 : rg p) (hn : rg n) (hM : Hm f a) : ML x F P A f l a b (s_mean (f 14) (a 15) (a 19) p n c) (wy (f 14 = 1 ∧ 0 ≤ p ∧ p < a 15 2) (0 ≤ n ∧ n ≤ 5)) (f_X2_mean (some (x + 8)) (ii p) (ii n) c (hp x F P A f l a b)) := by
  unfold f_X2_mean s_mean
  have hM' : Hm (fo f 0) a := hM
  have hy := wy_rg (f 14 = 1 ∧ 0 ≤ p ∧ p < a 15 2) (0 ≤ n ∧ n ≤ 5)
  have e14 : fo f 0 14 = f 14 := rfl
  have e5 : f_X2_in (ii n) 0 5 (hp x F P A (fo f 0) l a b) = some (ii (if 0 ≤ n ∧ n ≤ 5 then 1 else 0)) := m_in _ (lo := 0) (hi := 5) hn (by omega) (by omega)
  rw [ok1, Option.bind_some, m_good, Option.bind_some, ok1, Option.bind_some, m_isPair _ _ _ _ _ _ _ _ hp0 hM', Option.bind_some, e5, Option.bind_some, Option.bind_some, m_why _ _ (by split <;> omega) (by split <;> omega), Option.bind_some, e14]
  simp only [b1_]
  by_cases h0 : wy (f 14 = 1 ∧ 0 ≤ p ∧ p < a 15 2) (0 ≤ n ∧ n ≤ 5) = 0
  · obtain ⟨⟨h1, h2, h3⟩, h4, h5⟩ := wy_0.mp h0
    obtain h | ⟨-, hR⟩ := hM
    · omega
    obtain ⟨l', e1, e2, e3, e4⟩ := m_tryDumb x F P A (fo f 0) l a b (much := 0) hR h2 h3 h4 h5 (by omega)
    have hr := tdn_rg hR 0 h2 h3 h4 h5
    have hpw := pw_rg h4 h5
    have e6 := m_low (hp x F P A (fo f 0) l' a b) c (x := (tdn (a 15) (a 19) p n 0).2.2) (y := 100 ^ n.toNat) hr.2.2.1 (by omega) (by omega) (by omega)
    rw [h0, if_pos (show ii 0 = 0 by decide), if_pos rfl]
    refine ML.of l' ?_
    have e0 : (0 : Int32) = ii 0 := rfl
    rw [Option.bind_some, e0, e1, Option.bind_some, gm41, Option.bind_some, gm39, Option.bind_some, jo, jo, e2, e4, hr.1, e6, Option.bind_some]
  · rw [if_neg h0, if_neg (show ¬ ii (wy (f 14 = 1 ∧ 0 ≤ p ∧ p < a 15 2) (0 ≤ n ∧ n ≤ 5)) = 0 by rw [show (0 : Int32) = ii 0 from rfl, ii_eq (by omega) (by omega)]; exact h0), Option.bind_some, m_no, bn2_some, u1_u1]
    exact ML.of l rfl
def s_odds (h : Int) (ρ σ : Int → Int) (p n much : Int) (c : Int32) : Int64 := if wy (h = 1 ∧ 0 ≤ p ∧ p < ρ 2) ((0 ≤ n ∧ n ≤ 5) ∧ 0 ≤ much ∧ much ≤ 99) = 0 then frc (tdn ρ σ p n much).2.1 (100 ^ n.toNat) c else Int32.toInt64 (ii (-1))
theorem m_odds (x : Nat) (F : Nat → Int) (P : Nat → Option Nat) (A : Nat → Int → Int) (f l : Nat → Int) (a : Nat → Int → Int) (b : fk_M) {p n much : Int} (c : Int32) (hp0 : rg p) (hn : rg n) (hm : rg much) (hM : Hm f a) : ML x F P A f l a b (s_odds (f 14) (a 15) (a 19) p n much c) (wy (f 14 = 1 ∧ 0 ≤ p ∧ p < a 15 2) ((0 ≤ n ∧ n ≤ 5) ∧ 0 ≤ much ∧ much ≤ 99)) (f_X2_odds (some (x + 8)) (ii p) (ii n) (ii much) c (hp x F P A f l a b)) := by
  unfold f_X2_odds s_odds
  have hM' : Hm (fo f 0) a := hM
  have e14 : fo f 0 14 = f 14 := rfl
  have e5 : f_X2_in (ii n) 0 5 (hp x F P A (fo f 0) l a b) = some (ii (if 0 ≤ n ∧ n ≤ 5 then 1 else 0)) := m_in _ (lo := 0) (hi := 5) hn (by omega) (by omega)
  have e6 : f_X2_in (ii much) 0 99 (hp x F P A (fo f 0) l a b) = some (ii (if 0 ≤ much ∧ much ≤ 99 then 1 else 0)) := m_in _ (lo := 0) (hi := 99) hm (by omega) (by omega)
  rw [ok1, Option.bind_some, m_good, Option.bind_some, ok1, Option.bind_some, m_isPair _ _ _ _ _ _ _ _ hp0 hM', Option.bind_some, e5, Option.bind_some, e6, e14, Option.bind_some]
  have z10 : ((1 : Int) = 0) = False := by decide
  have z20 : ((2 : Int) = 0) = False := by decide
  have z00 : ((0 : Int) = 0) = True := by decide
  by_cases c1 : (f 14 = 1 ∧ 0 ≤ p ∧ p < a 15 2)
  · obtain h | ⟨-, hR⟩ := hM
    · omega
    by_cases c2 : 0 ≤ n ∧ n ≤ 5
    · by_cases c3 : 0 ≤ much ∧ much ≤ 99
      · have hwy : wy (f 14 = 1 ∧ 0 ≤ p ∧ p < a 15 2) ((0 ≤ n ∧ n ≤ 5) ∧ 0 ≤ much ∧ much ≤ 99) = 0 := wy_0.mpr ⟨c1, c2, c3⟩
        obtain ⟨l', e1, e2, e3, e4⟩ := m_tryDumb x F P A (fo f 0) l a b (much := much) hR c1.2.1 c1.2.2 c2.1 c2.2 hm
        have hr := tdn_rg hR much c1.2.1 c1.2.2 c2.1 c2.2
        have hpw := pw_rg c2.1 c2.2
        have e8 := m_low (hp x F P A (fo f 0) l' a b) c (x := (tdn (a 15) (a 19) p n much).2.1) (y := 100 ^ n.toNat) hr.2.1.1 (by omega) (by omega) (by omega)
        rw [hwy, if_pos c1, if_pos c2, if_pos c3, if_pos rfl]
        refine ML.of l' ?_
        simp (disch := first | omega | assumption) only [Option.bind_some, bn2_some, ii_lit, ii_neg, ii_add, ii_sub, ii_mul, ii_le, ii_lt, ii_eq, ii_ite, ii_or, ii_and, ii_bit, ii_rem, ii_div, b0_, b1_, b2_, b3_, true_and, and_true, u1_eq, u1_ne, u2_eq, u2_nk, u2_ni, uP_eq, uP_ne, gk1, gk2, gk3, gk4, gk10, gk11, gk12, gk13, gk14, gk15, gk17, gkr0, gkr7, gkr8, gkr9, gkr16, gkr18, gkr19, gkr5, gkr6, ok0, ok1, ok2, ok3, gl2_0, gl2_1, gl2_2, gl3_0, gl3_1, gl3_2, gm0, gm2, gm3, gm4, gm5, gm6, gm7, gm8, gm9, gm10, gm11, gm13, gm14, gm22, gm23, gm26, gm27, gm28, gm29, gm31, gm32, gm33, gm36, gm37, gm39, gm40, gm41, gm1, gm12, gm15, gm16, gm17, gm18, gm19, gm20, gm21, gm24, gm25, gm30, gm34, gm35, gm38, rk0, sk0, rk9, sk9, rk16, sk16, rk18, sk18, rk19, sk19, rm1, sm1, rm12, sm12, rm15, sm15, rm16, sm16, rm17, sm17, rm18, sm18, rm19, sm19, rm20, sm20, rm21, sm21, rm24, sm24, rm25, sm25, rm30, sm30, rm34, sm34, rm35, sm35, rm38, sm38, pk1, pk2, pk3, pk4, pk10, pk11, pk12, pk13, pk14, pk15, pk17, pkr5, pkr6, pm0, pm2, pm3, pm4, pm5, pm6, pm7, pm8, pm9, pm10, pm11, pm13, pz13_0, pz13_1, pm14, pz14_0, pz14_1, pm22, pm23, pm26, pm27, pm28, pm29, pm31, pm32, pm33, pm36, pm37, pm39, pm40, pm41, pl2_0, pl2_1, pl2_2, pl3_0, pl3_1, pl3_2, f_X2_why, z10, z00, if_true, if_false, e1, jo, e2, e3, hr.1, e8]
      · have hwy : wy (f 14 = 1 ∧ 0 ≤ p ∧ p < a 15 2) ((0 ≤ n ∧ n ≤ 5) ∧ 0 ≤ much ∧ much ≤ 99) = 2 := by
          unfold wy
          rw [if_pos c1, if_neg (fun h => c3 h.2)]
        rw [hwy, if_pos c1, if_pos c2, if_neg c3, if_neg (by decide)]
        refine ML.of l ?_
        simp (disch := first | omega | assumption) only [Option.bind_some, bn2_some, ii_lit, ii_neg, ii_add, ii_sub, ii_mul, ii_le, ii_lt, ii_eq, ii_ite, ii_or, ii_and, ii_bit, ii_rem, ii_div, b0_, b1_, b2_, b3_, true_and, and_true, u1_eq, u1_ne, u2_eq, u2_nk, u2_ni, uP_eq, uP_ne, gk1, gk2, gk3, gk4, gk10, gk11, gk12, gk13, gk14, gk15, gk17, gkr0, gkr7, gkr8, gkr9, gkr16, gkr18, gkr19, gkr5, gkr6, ok0, ok1, ok2, ok3, gl2_0, gl2_1, gl2_2, gl3_0, gl3_1, gl3_2, gm0, gm2, gm3, gm4, gm5, gm6, gm7, gm8, gm9, gm10, gm11, gm13, gm14, gm22, gm23, gm26, gm27, gm28, gm29, gm31, gm32, gm33, gm36, gm37, gm39, gm40, gm41, gm1, gm12, gm15, gm16, gm17, gm18, gm19, gm20, gm21, gm24, gm25, gm30, gm34, gm35, gm38, rk0, sk0, rk9, sk9, rk16, sk16, rk18, sk18, rk19, sk19, rm1, sm1, rm12, sm12, rm15, sm15, rm16, sm16, rm17, sm17, rm18, sm18, rm19, sm19, rm20, sm20, rm21, sm21, rm24, sm24, rm25, sm25, rm30, sm30, rm34, sm34, rm35, sm35, rm38, sm38, pk1, pk2, pk3, pk4, pk10, pk11, pk12, pk13, pk14, pk15, pk17, pkr5, pkr6, pm0, pm2, pm3, pm4, pm5, pm6, pm7, pm8, pm9, pm10, pm11, pm13, pz13_0, pz13_1, pm14, pz14_0, pz14_1, pm22, pm23, pm26, pm27, pm28, pm29, pm31, pm32, pm33, pm36, pm37, pm39, pm40, pm41, pl2_0, pl2_1, pl2_2, pl3_0, pl3_1, pl3_2, f_X2_why, z10, z00, z20, if_true, if_false, m_no, u1_u1]
    · have hwy : wy (f 14 = 1 ∧ 0 ≤ p ∧ p < a 15 2) ((0 ≤ n ∧ n ≤ 5) ∧ 0 ≤ much ∧ much ≤ 99) = 2 := by
        unfold wy
        rw [if_pos c1, if_neg (fun h => c2 h.1)]
      rw [hwy, if_pos c1, if_neg c2, if_neg (by decide)]
      refine ML.of l ?_
      simp (disch := first | omega | assumption) only [Option.bind_some, bn2_some, ii_lit, ii_neg, ii_add, ii_sub, ii_mul, ii_le, ii_lt, ii_eq, ii_ite, ii_or, ii_and, ii_bit, ii_rem, ii_div, b0_, b1_, b2_, b3_, true_and, and_true, u1_eq, u1_ne, u2_eq, u2_nk, u2_ni, uP_eq, uP_ne, gk1, gk2, gk3, gk4, gk10, gk11, gk12, gk13, gk14, gk15, gk17, gkr0, gkr7, gkr8, gkr9, gkr16, gkr18, gkr19, gkr5, gkr6, ok0, ok1, ok2, ok3, gl2_0, gl2_1, gl2_2, gl3_0, gl3_1, gl3_2, gm0, gm2, gm3, gm4, gm5, gm6, gm7, gm8, gm9, gm10, gm11, gm13, gm14, gm22, gm23, gm26, gm27, gm28, gm29, gm31, gm32, gm33, gm36, gm37, gm39, gm40, gm41, gm1, gm12, gm15, gm16, gm17, gm18, gm19, gm20, gm21, gm24, gm25, gm30, gm34, gm35, gm38, rk0, sk0, rk9, sk9, rk16, sk16, rk18, sk18, rk19, sk19, rm1, sm1, rm12, sm12, rm15, sm15, rm16, sm16, rm17, sm17, rm18, sm18, rm19, sm19, rm20, sm20, rm21, sm21, rm24, sm24, rm25, sm25, rm30, sm30, rm34, sm34, rm35, sm35, rm38, sm38, pk1, pk2, pk3, pk4, pk10, pk11, pk12, pk13, pk14, pk15, pk17, pkr5, pkr6, pm0, pm2, pm3, pm4, pm5, pm6, pm7, pm8, pm9, pm10, pm11, pm13, pz13_0, pz13_1, pm14, pz14_0, pz14_1, pm22, pm23, pm26, pm27, pm28, pm29, pm31, pm32, pm33, pm36, pm37, pm39, pm40, pm41, pl2_0, pl2_1, pl2_2, pl3_0, pl3_1, pl3_2, f_X2_why, f_X2_odds_J33, f_X2_odds_J34, z10, z00, z20, if_true, if_false, m_no, u1_u1]
  · have hwy : wy (f 14 = 1 ∧ 0 ≤ p ∧ p < a 15 2) ((0 ≤ n ∧ n ≤ 5) ∧ 0 ≤ much ∧ much ≤ 99) = 1 := if_neg c1
    rw [hwy, if_neg c1, if_neg (by decide)]
    refine ML.of l ?_
    by_cases c2 : 0 ≤ n ∧ n ≤ 5
    · rw [if_pos c2]
      simp (disch := first | omega | assumption) only [Option.bind_some, bn2_some, ii_lit, ii_neg, ii_add, ii_sub, ii_mul, ii_le, ii_lt, ii_eq, ii_ite, ii_or, ii_and, ii_bit, ii_rem, ii_div, b0_, b1_, b2_, b3_, true_and, and_true, u1_eq, u1_ne, u2_eq, u2_nk, u2_ni, uP_eq, uP_ne, gk1, gk2, gk3, gk4, gk10, gk11, gk12, gk13, gk14, gk15, gk17, gkr0, gkr7, gkr8, gkr9, gkr16, gkr18, gkr19, gkr5, gkr6, ok0, ok1, ok2, ok3, gl2_0, gl2_1, gl2_2, gl3_0, gl3_1, gl3_2, gm0, gm2, gm3, gm4, gm5, gm6, gm7, gm8, gm9, gm10, gm11, gm13, gm14, gm22, gm23, gm26, gm27, gm28, gm29, gm31, gm32, gm33, gm36, gm37, gm39, gm40, gm41, gm1, gm12, gm15, gm16, gm17, gm18, gm19, gm20, gm21, gm24, gm25, gm30, gm34, gm35, gm38, rk0, sk0, rk9, sk9, rk16, sk16, rk18, sk18, rk19, sk19, rm1, sm1, rm12, sm12, rm15, sm15, rm16, sm16, rm17, sm17, rm18, sm18, rm19, sm19, rm20, sm20, rm21, sm21, rm24, sm24, rm25, sm25, rm30, sm30, rm34, sm34, rm35, sm35, rm38, sm38, pk1, pk2, pk3, pk4, pk10, pk11, pk12, pk13, pk14, pk15, pk17, pkr5, pkr6, pm0, pm2, pm3, pm4, pm5, pm6, pm7, pm8, pm9, pm10, pm11, pm13, pz13_0, pz13_1, pm14, pz14_0, pz14_1, pm22, pm23, pm26, pm27, pm28, pm29, pm31, pm32, pm33, pm36, pm37, pm39, pm40, pm41, pl2_0, pl2_1, pl2_2, pl3_0, pl3_1, pl3_2, f_X2_why, z10, z00, z20, if_true, if_false, m_no, u1_u1]
    · rw [if_neg c2]
      simp (disch := first | omega | assumption) only [Option.bind_some, bn2_some, ii_lit, ii_neg, ii_add, ii_sub, ii_mul, ii_le, ii_lt, ii_eq, ii_ite, ii_or, ii_and, ii_bit, ii_rem, ii_div, b0_, b1_, b2_, b3_, true_and, and_true, u1_eq, u1_ne, u2_eq, u2_nk, u2_ni, uP_eq, uP_ne, gk1, gk2, gk3, gk4, gk10, gk11, gk12, gk13, gk14, gk15, gk17, gkr0, gkr7, gkr8, gkr9, gkr16, gkr18, gkr19, gkr5, gkr6, ok0, ok1, ok2, ok3, gl2_0, gl2_1, gl2_2, gl3_0, gl3_1, gl3_2, gm0, gm2, gm3, gm4, gm5, gm6, gm7, gm8, gm9, gm10, gm11, gm13, gm14, gm22, gm23, gm26, gm27, gm28, gm29, gm31, gm32, gm33, gm36, gm37, gm39, gm40, gm41, gm1, gm12, gm15, gm16, gm17, gm18, gm19, gm20, gm21, gm24, gm25, gm30, gm34, gm35, gm38, rk0, sk0, rk9, sk9, rk16, sk16, rk18, sk18, rk19, sk19, rm1, sm1, rm12, sm12, rm15, sm15, rm16, sm16, rm17, sm17, rm18, sm18, rm19, sm19, rm20, sm20, rm21, sm21, rm24, sm24, rm25, sm25, rm30, sm30, rm34, sm34, rm35, sm35, rm38, sm38, pk1, pk2, pk3, pk4, pk10, pk11, pk12, pk13, pk14, pk15, pk17, pkr5, pkr6, pm0, pm2, pm3, pm4, pm5, pm6, pm7, pm8, pm9, pm10, pm11, pm13, pz13_0, pz13_1, pm14, pz14_0, pz14_1, pm22, pm23, pm26, pm27, pm28, pm29, pm31, pm32, pm33, pm36, pm37, pm39, pm40, pm41, pl2_0, pl2_1, pl2_2, pl3_0, pl3_1, pl3_2, f_X2_why, f_X2_odds_J33, f_X2_odds_J34, z10, z00, z20, if_true, if_false, m_no, u1_u1]
