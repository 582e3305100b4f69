/-! PLAIN 36: what a reader does, and the model's -/
set_option maxRecDepth 100000
abbrev Er : Type := Int × Int
def aOn (T : Int → Int) (n : Int) (t : Tkn) : Tkn := tkn T n t.2.2.1
abbrev isW (t : Tkn) (w : List Int) : Prop := t.1 = 2 ∧ t.2.2.2.2 = w
def aMust (T : Int → Int) (n : Int) (w : List Int) (t : Tkn) : Except Er Tkn := if isW t w then .ok (aOn T n t) else .error (1, t.2.1)
def aNum (lo hi : Int) (t : Tkn) : Except Er (Int × Tkn) := if t.1 = 3 then (if lo ≤ t.2.2.2.1 ∧ t.2.2.2.1 ≤ hi then .ok (t.2.2.2.1, t) else .error (4, t.2.1)) else .error (1, t.2.1)
def aWh (T : Int → Int) (n lo hi : Int) (t : Tkn) : Except Er (Int × Tkn) := (aNum lo hi t).bind fun v => .ok (v.1, aOn T n v.2)
def aPt (T : Int → Int) (n : Int) (w : List Int) (lo hi : Int) (t : Tkn) : Except Er (Int × Tkn) := (aMust T n w t).bind fun t => aWh T n lo hi t
abbrev keyw (w : List Int) : Prop := w = kw 2 ∨ w = kw 3 ∨ w = kw 4 ∨ w = kw 5 ∨ w = kw 6 ∨ w = kw 7
abbrev isNm (t : Tkn) : Prop := t.1 = 2 ∧ ¬ keyw t.2.2.2.2
abbrev nmAt (φ : Int → Int) (w : List Int) (p : Int) : Prop := (0 < φ (50 + p) ∧ φ (50 + p) = (w.length : Int)) ∧ ∀ i : Nat, i < w.length → φ (55 + 8 * p + (i : Int)) = w.getD i 0
def fnd (φ : Int → Int) (w : List Int) : Int := fd (fun p => nmAt φ w p) 5 0 (-1)
def aKn (φ : Int → Int) (t : Tkn) : Except Er (Int × Tkn) := if isNm t then (if 0 ≤ fnd φ t.2.2.2.2 then .ok (fnd φ t.2.2.2.2, t) else .error (2, t.2.1)) else .error (1, t.2.1)
/-- the model's state -/
def MS (n : Int) (f : Nat → Int) (a : Nat → Int → Int) (r : Except Er Tkn) : Prop := match r with
  | .ok t => f 13 = 0 ∧ TokM f a t ∧ Tok8 n t
  | .error e => f 13 = 1 ∧ f 9 = e.1 ∧ f 10 = e.2
def MV (n : Int) (f : Nat → Int) (a : Nat → Int → Int) (z : Int32) (r : Except Er (Int × Tkn)) : Prop := match r with
  | .ok t => z = ii t.1 ∧ f 13 = 0 ∧ TokM f a t.2 ∧ Tok8 n t.2
  | .error e => f 13 = 1 ∧ f 9 = e.1 ∧ f 10 = e.2
def FrF (f f' : Nat → Int) : Prop := ∀ j, j ≠ 4 → j ≠ 5 → j ≠ 6 → j ≠ 7 → j ≠ 8 → (j ≠ 9 ∨ f' 13 = 0) → j ≠ 10 → (j ≠ 13 ∨ f' 13 = 0) → f' j = f j
theorem FrF.rfl' (f : Nat → Int) : FrF f f := fun _ _ _ _ _ _ _ _ _ => rfl
theorem FrF.tr {f g h : Nat → Int} (h1 : FrF f g) (h2 : FrF g h) : FrF f h := fun j a b c d e k l m => (h2 j a b c d e k l m).trans (h1 j a b c d e (k.imp id fun q => (h2 13 (by omega) (by omega) (by omega) (by omega) (by omega) (by omega) (by omega) (Or.inr q)).symm.trans q) l (m.imp id fun q => (h2 13 (by omega) (by omega) (by omega) (by omega) (by omega) (by omega) (by omega) (Or.inr q)).symm.trans q))
theorem FrF.mk5 {f f' : Nat → Int} (h : Mk5 f f') : FrF f f' := fun j a b c d e _ _ _ => h j a b c d e
abbrev Fr12 (a a' : Nat → Int → Int) : Prop := ∀ j, j ≠ 12 → a' j = a j
abbrev wf (f : Nat → Int) (k p : Int) : Nat → Int := u1 (u1 (u1 f 13 1) 9 k) 10 p
theorem wf_MS (n : Int) (f : Nat → Int) (a : Nat → Int → Int) (k p : Int) : wf f k p 13 = 1 ∧ wf f k p 9 = k ∧ wf f k p 10 = p := ⟨(u1_ne _ _ (by omega)).trans ((u1_ne _ _ (by omega)).trans (u1_eq ..)), (u1_ne _ _ (by omega)).trans (u1_eq ..), u1_eq ..⟩
theorem wf_Fr (f : Nat → Int) (k p : Int) : FrF f (wf f k p) := fun j _ _ _ _ _ h9 h10 h13 => by
  have w := (wf_MS 0 f (fun _ _ => 0) k p).1
  exact (u1_ne _ _ h10).trans ((u1_ne _ _ (h9.resolve_right (by omega))).trans (u1_ne _ _ (h13.resolve_right (by omega))))
theorem m_wrong0 (x : Nat) (F : Nat → Int) (P : Nat → Option Nat) (A : Nat → Int → Int) (f l : Nat → Int) (a : Nat → Int → Int) (b : fk_M) (h : f 13 = 0) (k p : Int) : f_X2_wrong (some (x + 8)) (ii k) (ii p) (hp x F P A f l a b) = some (hp x F P A (wf f k p) l a b) := by
  unfold f_X2_wrong
  simp (disch := first | omega | assumption) only [Option.bind_some, bn2_some, ii_lit, ii_neg, ii_add, ii_sub, ii_mul, ii_le, ii_lt, ii_eq, ii_ite, ii_or, ii_and, ii_bit, ii_rem, ii_div, b0_, b1_, b2_, b3_, true_and, and_true, u1_eq, u1_ne, u2_eq, u2_nk, u2_ni, uP_eq, uP_ne, gk1, gk2, gk3, gk4, gk10, gk11, gk12, gk13, gk14, gk15, gk17, gkr0, gkr7, gkr8, gkr9, gkr16, gkr18, gkr19, gkr5, gkr6, ok0, ok1, ok2, ok3, gl2_0, gl2_1, gl2_2, gl3_0, gl3_1, gl3_2, gm0, gm2, gm3, gm4, gm5, gm6, gm7, gm8, gm9, gm10, gm11, gm13, gm14, gm22, gm23, gm26, gm27, gm28, gm29, gm31, gm32, gm33, gm36, gm37, gm39, gm40, gm41, gm1, gm12, gm15, gm16, gm17, gm18, gm19, gm20, gm21, gm24, gm25, gm30, gm34, gm35, gm38, rk0, sk0, rk9, sk9, rk16, sk16, rk18, sk18, rk19, sk19, rm1, sm1, rm12, sm12, rm15, sm15, rm16, sm16, rm17, sm17, rm18, sm18, rm19, sm19, rm20, sm20, rm21, sm21, rm24, sm24, rm25, sm25, rm30, sm30, rm34, sm34, rm35, sm35, rm38, sm38, pk1, pk2, pk3, pk4, pk10, pk11, pk12, pk13, pk14, pk15, pk17, pkr5, pkr6, pm0, pm2, pm3, pm4, pm5, pm6, pm7, pm8, pm9, pm10, pm11, pm13, pz13_0, pz13_1, pm14, pz14_0, pz14_1, pm22, pm23, pm26, pm27, pm28, pm29, pm31, pm32, pm33, pm36, pm37, pm39, pm40, pm41, pl2_0, pl2_1, pl2_2, pl3_0, pl3_1, pl3_2, h]
  rw [if_pos trivial]
theorem m_wrong1 (x : Nat) (F : Nat → Int) (P : Nat → Option Nat) (A : Nat → Int → Int) (f l : Nat → Int) (a : Nat → Int → Int) (b : fk_M) (h : f 13 = 1) (k p : Int32) : f_X2_wrong (some (x + 8)) k p (hp x F P A f l a b) = some (hp x F P A f l a b) := by
  unfold f_X2_wrong
  simp (disch := first | omega | assumption) only [Option.bind_some, bn2_some, ii_lit, ii_neg, ii_add, ii_sub, ii_mul, ii_le, ii_lt, ii_eq, ii_ite, ii_or, ii_and, ii_bit, ii_rem, ii_div, b0_, b1_, b2_, b3_, true_and, and_true, u1_eq, u1_ne, u2_eq, u2_nk, u2_ni, uP_eq, uP_ne, gk1, gk2, gk3, gk4, gk10, gk11, gk12, gk13, gk14, gk15, gk17, gkr0, gkr7, gkr8, gkr9, gkr16, gkr18, gkr19, gkr5, gkr6, ok0, ok1, ok2, ok3, gl2_0, gl2_1, gl2_2, gl3_0, gl3_1, gl3_2, gm0, gm2, gm3, gm4, gm5, gm6, gm7, gm8, gm9, gm10, gm11, gm13, gm14, gm22, gm23, gm26, gm27, gm28, gm29, gm31, gm32, gm33, gm36, gm37, gm39, gm40, gm41, gm1, gm12, gm15, gm16, gm17, gm18, gm19, gm20, gm21, gm24, gm25, gm30, gm34, gm35, gm38, rk0, sk0, rk9, sk9, rk16, sk16, rk18, sk18, rk19, sk19, rm1, sm1, rm12, sm12, rm15, sm15, rm16, sm16, rm17, sm17, rm18, sm18, rm19, sm19, rm20, sm20, rm21, sm21, rm24, sm24, rm25, sm25, rm30, sm30, rm34, sm34, rm35, sm35, rm38, sm38, pk1, pk2, pk3, pk4, pk10, pk11, pk12, pk13, pk14, pk15, pk17, pkr5, pkr6, pm0, pm2, pm3, pm4, pm5, pm6, pm7, pm8, pm9, pm10, pm11, pm13, pz13_0, pz13_1, pm14, pz14_0, pz14_1, pm22, pm23, pm26, pm27, pm28, pm29, pm31, pm32, pm33, pm36, pm37, pm39, pm40, pm41, pl2_0, pl2_1, pl2_2, pl3_0, pl3_1, pl3_2, h]
  rw [if_neg (by decide)]
section MOPS
theorem m_pass (x : Nat) (F : Nat → Int) (P : Nat → Option Nat) (A : Nat → Int → Int) (f l : Nat → Int) (a : Nat → Int → Int) (b : fk_M) {r : Except Er Tkn} (hT : Tx8 (a 1) (f 3)) (hM : MS (f 3) f a r) : ∃ f' a', f_X2_pass (some (x + 8)) (hp x F P A f l a b) = some (hp x F P A f' l a' b) ∧ MS (f 3) f' a' (r.map (aOn (a 1) (f 3))) ∧ FrF f f' ∧ Fr12 a a' := by
  unfold f_X2_pass
  rcases r with e | t
  · refine ⟨f, a, ?_, hM, FrF.rfl' f, fun _ _ => rfl⟩
    simp (disch := first | omega | assumption) only [Option.bind_some, bn2_some, ii_lit, ii_neg, ii_add, ii_sub, ii_mul, ii_le, ii_lt, ii_eq, ii_ite, ii_or, ii_and, ii_bit, ii_rem, ii_div, b0_, b1_, b2_, b3_, true_and, and_true, u1_eq, u1_ne, u2_eq, u2_nk, u2_ni, uP_eq, uP_ne, gk1, gk2, gk3, gk4, gk10, gk11, gk12, gk13, gk14, gk15, gk17, gkr0, gkr7, gkr8, gkr9, gkr16, gkr18, gkr19, gkr5, gkr6, ok0, ok1, ok2, ok3, gl2_0, gl2_1, gl2_2, gl3_0, gl3_1, gl3_2, gm0, gm2, gm3, gm4, gm5, gm6, gm7, gm8, gm9, gm10, gm11, gm13, gm14, gm22, gm23, gm26, gm27, gm28, gm29, gm31, gm32, gm33, gm36, gm37, gm39, gm40, gm41, gm1, gm12, gm15, gm16, gm17, gm18, gm19, gm20, gm21, gm24, gm25, gm30, gm34, gm35, gm38, rk0, sk0, rk9, sk9, rk16, sk16, rk18, sk18, rk19, sk19, rm1, sm1, rm12, sm12, rm15, sm15, rm16, sm16, rm17, sm17, rm18, sm18, rm19, sm19, rm20, sm20, rm21, sm21, rm24, sm24, rm25, sm25, rm30, sm30, rm34, sm34, rm35, sm35, rm38, sm38, pk1, pk2, pk3, pk4, pk10, pk11, pk12, pk13, pk14, pk15, pk17, pkr5, pkr6, pm0, pm2, pm3, pm4, pm5, pm6, pm7, pm8, pm9, pm10, pm11, pm13, pz13_0, pz13_1, pm14, pz14_0, pz14_1, pm22, pm23, pm26, pm27, pm28, pm29, pm31, pm32, pm33, pm36, pm37, pm39, pm40, pm41, pl2_0, pl2_1, pl2_2, pl3_0, pl3_1, pl3_2, hM.1]
    rw [if_neg (by decide)]
  · obtain ⟨h1, h2, h3⟩ := hM
    obtain ⟨f', a', g1, g2, g3, g4⟩ := m_next x F P A f l a b hT (by rw [h2.2.1]; exact h3.2.1.1) (by rw [h2.2.1]; exact h3.2.1.2)
    rw [h2.2.1] at g4
    refine ⟨f', a', ?_, ⟨(g2 13 (by omega) (by omega) (by omega) (by omega) (by omega)).trans h1, g4, tkn_ok hT h3.2.1.1 h3.2.1.2⟩, FrF.mk5 g2, g3⟩
    simp (disch := first | omega | assumption) only [Option.bind_some, bn2_some, ii_lit, ii_neg, ii_add, ii_sub, ii_mul, ii_le, ii_lt, ii_eq, ii_ite, ii_or, ii_and, ii_bit, ii_rem, ii_div, b0_, b1_, b2_, b3_, true_and, and_true, u1_eq, u1_ne, u2_eq, u2_nk, u2_ni, uP_eq, uP_ne, gk1, gk2, gk3, gk4, gk10, gk11, gk12, gk13, gk14, gk15, gk17, gkr0, gkr7, gkr8, gkr9, gkr16, gkr18, gkr19, gkr5, gkr6, ok0, ok1, ok2, ok3, gl2_0, gl2_1, gl2_2, gl3_0, gl3_1, gl3_2, gm0, gm2, gm3, gm4, gm5, gm6, gm7, gm8, gm9, gm10, gm11, gm13, gm14, gm22, gm23, gm26, gm27, gm28, gm29, gm31, gm32, gm33, gm36, gm37, gm39, gm40, gm41, gm1, gm12, gm15, gm16, gm17, gm18, gm19, gm20, gm21, gm24, gm25, gm30, gm34, gm35, gm38, rk0, sk0, rk9, sk9, rk16, sk16, rk18, sk18, rk19, sk19, rm1, sm1, rm12, sm12, rm15, sm15, rm16, sm16, rm17, sm17, rm18, sm18, rm19, sm19, rm20, sm20, rm21, sm21, rm24, sm24, rm25, sm25, rm30, sm30, rm34, sm34, rm35, sm35, rm38, sm38, pk1, pk2, pk3, pk4, pk10, pk11, pk12, pk13, pk14, pk15, pk17, pkr5, pkr6, pm0, pm2, pm3, pm4, pm5, pm6, pm7, pm8, pm9, pm10, pm11, pm13, pz13_0, pz13_1, pm14, pz14_0, pz14_1, pm22, pm23, pm26, pm27, pm28, pm29, pm31, pm32, pm33, pm36, pm37, pm39, pm40, pm41, pl2_0, pl2_1, pl2_2, pl3_0, pl3_1, pl3_2, h1, g1]
    rw [if_pos trivial]
theorem m_isWord (x : Nat) (F : Nat → Int) (P : Nat → Option Nat) (A : Nat → Int → Int) (f l : Nat → Int) (a : Nat → Int → Int) (b : fk_M) (g : Nat → Nat) (hC : Cn x b g) {t : Tkn} (h1 : f 13 = 0) (h2 : TokM f a t) (h3 : Tok8 (f 3) t) {i : Nat} (hi : i < 40) : f_X2_isWord g (some (x + 8)) (some (g i)) (hp x F P A f l a b) = some (ii (if isW t (kw i) then 1 else 0)) := by
  obtain ⟨k1, k2⟩ := str_len x F P A f l a b (hC i hi)
  have hl := kw_lt hi
  have hl8 := hl.1
  unfold f_X2_isWord
  rw [gm13, Option.bind_some, h1, if_pos (show ii 0 = 0 from rfl), gm6, Option.bind_some, h2.2.2.1]
  by_cases hk : t.1 = 2
  rotate_left
  · rw [if_neg (fun h : isW t (kw i) => hk h.1)]
    have hr := h3.2.2.1
    have hc : ¬ ii (if t.1 = 1 then 0 else if t.1 = 0 then 1 else if t.1 = 4 then 59 else t.1) = 2 := by
      rw [show (2 : Int32) = ii 2 from rfl, ii_eq (by (repeat' split) <;> omega) (by omega)]
      (repeat' split) <;> omega
    rw [if_neg hc]
    rfl
  obtain ⟨e8, e12⟩ := h2.2.2.2.2 hk
  have hw8 := h3.2.2.2.2.1
  have hw9 := hw8.1
  have hcode : (if t.1 = 1 then (0 : Int) else if t.1 = 0 then 1 else if t.1 = 4 then 59 else t.1) = 2 := by
    rw [if_neg (by omega), if_neg (by omega), if_neg (by omega)]
    exact hk
  rw [hcode, if_pos (show ii 2 = 2 from rfl), gm8, Option.bind_some, k1, Option.bind_some, k2, Option.bind_some, e8]
  by_cases hlen : t.2.2.2.2.length = (kw i).length
  rotate_left
  · rw [if_neg (show ¬ ii (t.2.2.2.2.length : Int) = ii ((kw i).length : Int) by rw [ii_eq (by omega) (by omega)]; omega), if_neg (fun h : isW t (kw i) => hlen (by rw [h.2]))]
    rfl
  rw [if_pos (show ii (t.2.2.2.2.length : Int) = ii ((kw i).length : Int) by rw [hlen])]
  have hL : ∀ (d N k : Nat) (s : Int), k + d = (kw i).length → d < N → (s = 0 ∨ s = 1) → f_X2_isWord_L32 g (some (x + 8)) (some (g i)) (hp x F P A f l a b) N (ii s) (ii k) = some (ii (if s = 1 ∧ ∀ j : Nat, j < (kw i).length → k ≤ j → t.2.2.2.2.getD j 0 = (kw i).getD j 0 then 1 else 0)) := by
    intro d
    induction d with
    | zero =>
      intro N k s h4 h5 h6
      obtain ⟨N, rfl⟩ : ∃ M, N = M + 1 := ⟨N - 1, by omega⟩
      rw [f_X2_isWord_L32, gm8, Option.bind_some, e8, if_pos (by rw [ii_le (by omega) (by omega)]; omega)]
      rcases h6 with rfl | rfl
      · rw [if_pos (show ii 0 = 0 ∨ ii 0 = 1 from Or.inl rfl), if_neg (fun h => absurd h.1 (by decide))]
      · rw [if_pos (show ii 1 = 0 ∨ ii 1 = 1 from Or.inr rfl), if_pos ⟨rfl, fun j j1 j2 => by omega⟩]
    | succ d ih =>
      intro N k s h4 h5 h6
      obtain ⟨N, rfl⟩ : ∃ M, N = M + 1 := ⟨N - 1, by omega⟩
      have hat := str_at x F P A f l a b (hC i hi) hl g (i := k) (by omega)
      have hv1 := hw8.2 k (by omega)
      have hv2 := hl.2 k (by omega)
      rw [f_X2_isWord_L32, gm8, Option.bind_some, e8, if_neg (by rw [ii_le (by omega) (by omega)]; omega)]
      unfold f_X2_isWord_J62 f_X2_isWord_J63
      have e1 : ii (k : Int) + 1 = ii ((k + 1 : Nat) : Int) := by rw [show (1 : Int32) = ii 1 from rfl, ii_add]; rfl
      rcases h6 with rfl | rfl
      · rw [if_pos (show ii 0 = 0 from rfl), e1]
        have := ih N (k + 1) 0 (by omega) (by omega) (Or.inl rfl)
        rw [if_neg (fun h => absurd h.1 (by decide))] at this ⊢
        exact this
      · rw [if_neg (show ¬ ii 1 = 0 by decide), gm12, Option.bind_some, rm12 x F P A f l a b (by omega) (by omega), Option.bind_some, k1, Option.bind_some, hat, Option.bind_some, e12 k (by omega), e1]
        by_cases hc : t.2.2.2.2.getD k 0 = (kw i).getD k 0
        · rw [if_pos (show ii (t.2.2.2.2.getD k 0) = ii ((kw i).getD k 0) by rw [hc])]
          refine (ih N (k + 1) 1 (by omega) (by omega) (Or.inr rfl)).trans ?_
          by_cases hall : ∀ j : Nat, j < (kw i).length → k + 1 ≤ j → t.2.2.2.2.getD j 0 = (kw i).getD j 0
          · rw [if_pos ⟨rfl, hall⟩, if_pos ⟨rfl, fun j j1 j2 => by
              by_cases hj : j = k
              · rw [hj]; exact hc
              · exact hall j j1 (by omega)⟩]
          · rw [if_neg (fun h => hall h.2), if_neg (fun h => hall (fun j j1 j2 => h.2 j j1 (by omega)))]
        · rw [if_neg (show ¬ ii (t.2.2.2.2.getD k 0) = ii ((kw i).getD k 0) by rw [ii_eq (by omega) (by omega)]; exact hc)]
          refine (ih N (k + 1) 0 (by omega) (by omega) (Or.inl rfl)).trans ?_
          rw [if_neg (fun h => absurd h.1 (by decide)), if_neg (fun h => hc (h.2 k (by omega) (by omega)))]
  refine (hL (kw i).length fk_fuel 0 1 (by omega) (by unfold fk_fuel; omega) (Or.inr rfl)).trans ?_
  by_cases hw : t.2.2.2.2 = kw i
  · rw [if_pos ⟨rfl, fun j _ _ => by rw [hw]⟩, if_pos ⟨hk, hw⟩]
  · rw [if_neg (fun h => hw (w_eq.mpr ⟨hlen, fun j hj => h.2 j (by omega) (by omega)⟩)), if_neg (fun h : isW t (kw i) => hw h.2)]
theorem m_isWord1 (x : Nat) (F : Nat → Int) (P : Nat → Option Nat) (A : Nat → Int → Int) (f l : Nat → Int) (a : Nat → Int → Int) (b : fk_M) (g : Nat → Nat) (h1 : f 13 = 1) (q : Option Nat) : f_X2_isWord g (some (x + 8)) q (hp x F P A f l a b) = some 0 := by
  unfold f_X2_isWord
  rw [gm13, Option.bind_some, h1, if_neg (show ¬ ii 1 = 0 by decide)]
theorem m_must (x : Nat) (F : Nat → Int) (P : Nat → Option Nat) (A : Nat → Int → Int) (f l : Nat → Int) (a : Nat → Int → Int) (b : fk_M) (g : Nat → Nat) (hC : Cn x b g) {r : Except Er Tkn} (hT : Tx8 (a 1) (f 3)) (hM : MS (f 3) f a r) {i : Nat} (hi : i < 40) : ∃ f' a', f_X2_must g (some (x + 8)) (some (g i)) (hp x F P A f l a b) = some (hp x F P A f' l a' b) ∧ MS (f 3) f' a' (r.bind (aMust (a 1) (f 3) (kw i))) ∧ FrF f f' ∧ Fr12 a a' := by
  unfold f_X2_must
  rcases r with e | t
  · refine ⟨f, a, ?_, hM, FrF.rfl' f, fun _ _ => rfl⟩
    rw [gm13, Option.bind_some, hM.1, if_neg (show ¬ ii 1 = 0 by decide)]
  · obtain ⟨h1, h2, h3⟩ := hM
    have hw := m_isWord x F P A f l a b g hC h1 h2 h3 hi
    rw [gm13, Option.bind_some, h1, if_pos (show ii 0 = 0 from rfl), ok1, Option.bind_some]
    unfold f_X2_takesWord
    rw [ok1, Option.bind_some, hw, Option.bind_some]
    have eb : (Except.ok t : Except Er Tkn).bind (aMust (a 1) (f 3) (kw i)) = if isW t (kw i) then .ok (aOn (a 1) (f 3) t) else .error (1, t.2.1) := rfl
    rw [eb]
    by_cases hc : isW t (kw i)
    · obtain ⟨f', a', g1, g2, g3, g4⟩ := m_next x F P A f l a b hT (by rw [h2.2.1]; exact h3.2.1.1) (by rw [h2.2.1]; exact h3.2.1.2)
      rw [h2.2.1] at g4
      rw [if_pos hc, if_pos hc]
      refine ⟨f', a', ?_, ⟨(g2 13 (by omega) (by omega) (by omega) (by omega) (by omega)).trans h1, g4, tkn_ok hT h3.2.1.1 h3.2.1.2⟩, FrF.mk5 g2, g3⟩
      rw [if_neg (show ¬ ii 1 = 0 by decide), Option.bind_some, g1, Option.bind_some, bn2_some, if_neg (show ¬ (1 : Int32) = 0 by decide)]
    · rw [if_neg hc, if_neg hc]
      refine ⟨wf f 1 t.2.1, a, ?_, wf_MS (f 3) f a 1 t.2.1, wf_Fr f 1 t.2.1, fun _ _ => rfl⟩
      rw [if_pos (show ii 0 = 0 from rfl), bn2_some, if_pos rfl, gm4, Option.bind_some, h2.1, ok1, Option.bind_some, show (1 : Int32) = ii 1 from rfl, m_wrong0 x F P A f l a b h1, Option.bind_some]
theorem m_numberHere (x : Nat) (F : Nat → Int) (P : Nat → Option Nat) (A : Nat → Int → Int) (f l : Nat → Int) (a : Nat → Int → Int) (b : fk_M) {r : Except Er Tkn} {lo hi : Int} (hl : rg lo) (hh : rg hi) (hM : MS (f 3) f a r) : ∃ f' z, f_X2_numberHere (some (x + 8)) (ii lo) (ii hi) (hp x F P A f l a b) = some (z, hp x F P A f' l a b) ∧ MV (f 3) f' a z (r.bind (aNum lo hi)) ∧ FrF f f' := by
  unfold f_X2_numberHere f_X2_numberHere_J50
  rcases r with e | t
  · refine ⟨f, ii lo, ?_, hM, FrF.rfl' f⟩
    rw [gm13, Option.bind_some, hM.1, if_neg (show ¬ ii 1 = 0 by decide)]
  · obtain ⟨h1, h2, h3⟩ := hM
    have hr := h3.2.2.1
    have eb : (Except.ok t : Except Er Tkn).bind (aNum lo hi) = if t.1 = 3 then (if lo ≤ t.2.2.2.1 ∧ t.2.2.2.1 ≤ hi then .ok (t.2.2.2.1, t) else .error (4, t.2.1)) else .error (1, t.2.1) := rfl
    rw [eb, gm13, Option.bind_some, h1, if_pos (show ii 0 = 0 from rfl), gm6, Option.bind_some, h2.2.2.1]
    by_cases hk : t.1 = 3
    rotate_left
    · have hc : ¬ ii (if t.1 = 1 then 0 else if t.1 = 0 then 1 else if t.1 = 4 then 59 else t.1) = 3 := by
        rw [show (3 : Int32) = ii 3 from rfl, ii_eq (by (repeat' split) <;> omega) (by omega)]
        (repeat' split) <;> omega
      have w13 := (wf_MS (f 3) f a 1 t.2.1).1
      rw [if_neg hc, if_neg hk]
      refine ⟨wf f 1 t.2.1, ii lo, ?_, wf_MS (f 3) f a 1 t.2.1, wf_Fr f 1 t.2.1⟩
      rw [gm4, Option.bind_some, h2.1, ok1, Option.bind_some, show (1 : Int32) = ii 1 from rfl, m_wrong0 x F P A f l a b h1, Option.bind_some, gm13, Option.bind_some, w13, if_neg (show ¬ ii 1 = 0 by decide)]
    · have hN := h3.2.2.2.1 hk
      have hin := m_in (hp x F P A f l a b) (v := t.2.2.2.1) (lo := lo) (hi := hi) (by omega) hl hh
      have hcode : (if t.1 = 1 then (0 : Int) else if t.1 = 0 then 1 else if t.1 = 4 then 59 else t.1) = 3 := by
        rw [if_neg (by omega), if_neg (by omega), if_neg (by omega)]
        exact hk
      rw [hcode, if_pos (show ii 3 = 3 from rfl), gm7, Option.bind_some, h2.2.2.2.1 hk, hin, Option.bind_some, if_pos hk]
      by_cases hc : lo ≤ t.2.2.2.1 ∧ t.2.2.2.1 ≤ hi
      · rw [if_pos hc, if_pos hc, if_neg (show ¬ ii 1 = 0 by decide)]
        refine ⟨f, ii t.2.2.2.1, ?_, ⟨rfl, h1, h2, h3⟩, FrF.rfl' f⟩
        rw [Option.bind_some, if_pos (show ii 0 = 0 from rfl), Option.bind_some]
      · have w13 := (wf_MS (f 3) f a 4 t.2.1).1
        rw [if_neg hc, if_neg hc, if_pos (show ii 0 = 0 from rfl)]
        refine ⟨wf f 4 t.2.1, ii lo, ?_, wf_MS (f 3) f a 4 t.2.1, wf_Fr f 4 t.2.1⟩
        rw [gm4, Option.bind_some, h2.1, ok1, Option.bind_some, show (4 : Int32) = ii 4 from rfl, m_wrong0 x F P A f l a b h1, Option.bind_some, gm13, Option.bind_some, w13, if_neg (show ¬ ii 1 = 0 by decide)]
/-- a value's state without the value -/
theorem MV.ms {n : Int} {f : Nat → Int} {a : Nat → Int → Int} {z : Int32} {r : Except Er (Int × Tkn)} (h : MV n f a z r) : MS n f a (r.map Prod.snd) := by
  rcases r with e | t
  · exact h
  · exact h.2
theorem MV.on {n : Int} {f f' : Nat → Int} {a a' : Nat → Int → Int} {z : Int32} {r : Except Er (Int × Tkn)} (h : MV n f a z r) {T : Int → Int} (h2 : MS n f' a' ((r.map Prod.snd).map (aOn T n))) : MV n f' a' z (r.bind fun v => .ok (v.1, aOn T n v.2)) := by
  rcases r with e | t
  · exact h2
  · exact ⟨h.1, h2⟩
theorem m_number (x : Nat) (F : Nat → Int) (P : Nat → Option Nat) (A : Nat → Int → Int) (f l : Nat → Int) (a : Nat → Int → Int) (b : fk_M) {r : Except Er Tkn} {lo hi : Int} (hl : rg lo) (hh : rg hi) (hT : Tx8 (a 1) (f 3)) (hM : MS (f 3) f a r) : ∃ f' a' z, f_X2_number (some (x + 8)) (ii lo) (ii hi) (hp x F P A f l a b) = some (z, hp x F P A f' l a' b) ∧ MV (f 3) f' a' z (r.bind (aWh (a 1) (f 3) lo hi)) ∧ FrF f f' ∧ Fr12 a a' := by
  unfold f_X2_number
  obtain ⟨f1, z, g1, g2, g3⟩ := m_numberHere x F P A f l a b hl hh hM
  have e3 : f1 3 = f 3 := g3 3 (by omega) (by omega) (by omega) (by omega) (by omega) (by omega) (by omega) (by omega)
  obtain ⟨f2, a2, k1, k2, k3, k4⟩ := m_pass x F P A f1 l a b (r := (r.bind (aNum lo hi)).map Prod.snd) (by rw [e3]; exact hT) (by rw [e3]; exact g2.ms)
  rw [e3] at k2
  refine ⟨f2, a2, z, ?_, ?_, g3.tr k3, k4⟩
  · rw [ok1, Option.bind_some, g1, bn2_some, ok1, Option.bind_some, k1, Option.bind_some]
  · have := g2.on k2
    rcases r with e | t
    · exact this
    · exact this
theorem m_after (x : Nat) (F : Nat → Int) (P : Nat → Option Nat) (A : Nat → Int → Int) (f l : Nat → Int) (a : Nat → Int → Int) (b : fk_M) (g : Nat → Nat) (hC : Cn x b g) {r : Except Er Tkn} {lo hi : Int} (hl : rg lo) (hh : rg hi) (hT : Tx8 (a 1) (f 3)) (hM : MS (f 3) f a r) {i : Nat} (hi' : i < 40) : ∃ f' a' z, f_X2_after g (some (x + 8)) (some (g i)) (ii lo) (ii hi) (hp x F P A f l a b) = some (z, hp x F P A f' l a' b) ∧ MV (f 3) f' a' z (r.bind (aPt (a 1) (f 3) (kw i) lo hi)) ∧ FrF f f' ∧ Fr12 a a' := by
  unfold f_X2_after
  obtain ⟨f1, a1, g1, g2, g3, g4⟩ := m_must x F P A f l a b g hC hT hM hi'
  have e3 : f1 3 = f 3 := g3 3 (by omega) (by omega) (by omega) (by omega) (by omega) (by omega) (by omega) (by omega)
  have e1 : a1 1 = a 1 := g4 1 (by omega)
  obtain ⟨f2, a2, z, k1, k2, k3, k4⟩ := m_number x F P A f1 l a1 b (r := r.bind (aMust (a 1) (f 3) (kw i))) hl hh (by rw [e3, e1]; exact hT) (by rw [e3]; exact g2)
  rw [e3, e1] at k2
  refine ⟨f2, a2, z, ?_, ?_, g3.tr k3, fun j hj => (k4 j hj).trans (g4 j hj)⟩
  · rw [ok1, Option.bind_some, g1, Option.bind_some, ok1, Option.bind_some, k1, bn2_some]
  · rcases r with e | t
    · exact k2
    · exact k2
end MOPS
