/-! PLAIN 34: tokens, and the model's -/
set_option maxRecDepth 100000
abbrev Tkn : Type := Int × Int × Int × Int × List Int
def ch (T : Int → Int) (n p : Int) : Int := if p < n then T p else -1
def skp (T : Int → Int) (n : Int) : Nat → Int → Int
  | 0, p => p
  | d + 1, p => if ch T n p = 32 then skp T n d (p + 1) else p
def rn (T : Int → Int) (n lo hi : Int) : Nat → Int → Int
  | 0, p => p
  | d + 1, p => if lo ≤ ch T n p ∧ ch T n p ≤ hi then rn T n lo hi d (p + 1) else p
def wdl (T : Int → Int) (p : Int) (d : Nat) : List Int := (List.range d).map (fun (i : Nat) => T (p + (i : Int)))
def nmv (T : Int → Int) (p : Int) : Nat → Int
  | 0 => 0
  | m + 1 => 10 * nmv T p m + T (p + (m : Int)) - 48
/-- the token from a place on: sort (0 bad, 1 end, 2 word, 3 whole, 4 sign), place, end, number, word -/
def tkn (T : Int → Int) (n e : Int) : Tkn :=
  if ch T n (skp T n 901 e) = -1 then (1, skp T n 901 e, skp T n 901 e, 0, [])
  else if 97 ≤ ch T n (skp T n 901 e) ∧ ch T n (skp T n 901 e) ≤ 122 then
    (if 8 < rn T n 97 122 901 (skp T n 901 e) - skp T n 901 e then 0 else 2, skp T n 901 e, rn T n 97 122 901 (skp T n 901 e), 0, wdl T (skp T n 901 e) (min 8 (rn T n 97 122 901 (skp T n 901 e) - skp T n 901 e).toNat))
  else if 48 ≤ ch T n (skp T n 901 e) ∧ ch T n (skp T n 901 e) ≤ 57 then
    (if 3 < rn T n 48 57 901 (skp T n 901 e) - skp T n 901 e then 0 else 3, skp T n 901 e, rn T n 48 57 901 (skp T n 901 e), nmv T (skp T n 901 e) (min 3 (rn T n 48 57 901 (skp T n 901 e) - skp T n 901 e).toNat), [])
  else (if ch T n (skp T n 901 e) = 59 then 4 else 0, skp T n 901 e, skp T n 901 e + 1, ch T n (skp T n 901 e), [])
theorem wdl_len (T : Int → Int) (p : Int) (d : Nat) : (wdl T p d).length = d := by
  unfold wdl
  rw [List.length_map, List.length_range]
theorem wdl_get (T : Int → Int) (p : Int) {d i : Nat} (h : i < d) : (wdl T p d).getD i 0 = T (p + (i : Int)) := by
  unfold wdl
  rw [List.getD_eq_getElem?_getD, List.getElem?_map, List.getElem?_range h]
  rfl
/-- what a text keeps to -/
def Tx8 (T : Int → Int) (n : Int) : Prop := (0 ≤ n ∧ n ≤ 900) ∧ ∀ k, 0 ≤ k → k < n → 0 ≤ T k ∧ T k ≤ 255
theorem ch_rg {T : Int → Int} {n : Int} (h : Tx8 T n) {p : Int} (h0 : 0 ≤ p) : -1 ≤ ch T n p ∧ ch T n p ≤ 255 := by
  unfold ch
  split
  · have := h.2 p h0 (by assumption)
    omega
  · omega
theorem ch_lt {T : Int → Int} {n p : Int} (h : ch T n p ≠ -1) : p < n := by
  unfold ch at h
  split at h
  · assumption
  · exact absurd rfl h
theorem ch_no {T : Int → Int} {n : Int} (h : Tx8 T n) {p : Int} (h0 : 0 ≤ p) : ch T n p = -1 ↔ n ≤ p := by
  unfold ch
  split
  · have := h.2 p h0 (by assumption)
    omega
  · omega
theorem skp_rg {T : Int → Int} {n : Int} : ∀ (d : Nat) (p : Int), p ≤ n → p ≤ skp T n d p ∧ skp T n d p ≤ n := by
  intro d
  induction d with
  | zero => intro p h; exact ⟨Int.le_refl _, h⟩
  | succ d ih =>
    intro p h
    show p ≤ (if ch T n p = 32 then skp T n d (p + 1) else p) ∧ (if ch T n p = 32 then skp T n d (p + 1) else p) ≤ n
    split
    · have := ih (p + 1) (by have := ch_lt (T := T) (n := n) (p := p) (by omega); omega)
      omega
    · omega
theorem skp_no {T : Int → Int} {n : Int} : ∀ (d : Nat) (p : Int), n - p < d → ch T n (skp T n d p) ≠ 32 := by
  intro d
  induction d with
  | zero =>
    intro p h
    show ch T n p ≠ 32
    unfold ch
    rw [if_neg (by omega)]
    omega
  | succ d ih =>
    intro p h
    show ch T n (if ch T n p = 32 then skp T n d (p + 1) else p) ≠ 32
    split
    · exact ih (p + 1) (by omega)
    · assumption
theorem rn_rg {T : Int → Int} {n lo hi : Int} (hl : 0 ≤ lo) : ∀ (d : Nat) (p : Int), p ≤ n → p ≤ rn T n lo hi d p ∧ rn T n lo hi d p ≤ n := by
  intro d
  induction d with
  | zero => intro p h; exact ⟨Int.le_refl _, h⟩
  | succ d ih =>
    intro p h
    show p ≤ (if lo ≤ ch T n p ∧ ch T n p ≤ hi then rn T n lo hi d (p + 1) else p) ∧ (if lo ≤ ch T n p ∧ ch T n p ≤ hi then rn T n lo hi d (p + 1) else p) ≤ n
    split
    · have := ih (p + 1) (by have := ch_lt (T := T) (n := n) (p := p) (by omega); omega)
      omega
    · omega
theorem rn_in {T : Int → Int} {n lo hi : Int} (hl : 0 ≤ lo) : ∀ (d : Nat) (p i : Int), p ≤ i → i < rn T n lo hi d p → lo ≤ ch T n i ∧ ch T n i ≤ hi := by
  intro d
  induction d with
  | zero =>
    intro p i h1 h2
    have h2 : i < p := h2
    omega
  | succ d ih =>
    intro p i h1 h2
    have h2 : i < (if lo ≤ ch T n p ∧ ch T n p ≤ hi then rn T n lo hi d (p + 1) else p) := h2
    by_cases hc : lo ≤ ch T n p ∧ ch T n p ≤ hi
    · rw [if_pos hc] at h2
      by_cases hi : i = p
      · rw [hi]; exact hc
      · exact ih (p + 1) i (by omega) h2
    · rw [if_neg hc] at h2
      omega
/-- the model's registers hold a token -/
def TokM (f : Nat → Int) (a : Nat → Int → Int) (t : Tkn) : Prop := f 4 = t.2.1 ∧ f 5 = t.2.2.1 ∧ f 6 = (if t.1 = 1 then 0 else if t.1 = 0 then 1 else if t.1 = 4 then 59 else t.1) ∧ (t.1 = 3 → f 7 = t.2.2.2.1) ∧ (t.1 = 2 → f 8 = t.2.2.2.2.length ∧ ∀ i : Nat, i < t.2.2.2.2.length → a 12 i = t.2.2.2.2.getD i 0)
def Mk5 (f f' : Nat → Int) : Prop := ∀ j, j ≠ 4 → j ≠ 5 → j ≠ 6 → j ≠ 7 → j ≠ 8 → f' j = f j
theorem m_see (x : Nat) (F : Nat → Int) (P : Nat → Option Nat) (A : Nat → Int → Int) (f l : Nat → Int) (a : Nat → Int → Int) (b : fk_M) {k : Int} (hT : Tx8 (a 1) (f 3)) (h0 : 0 ≤ k) (h1 : k ≤ f 3) : f_X2_see (some (x + 8)) (ii k) (hp x F P A f l a b) = some (ii (ch (a 1) (f 3) k)) := by
  have hn := hT.1
  unfold f_X2_see ch
  rw [gm3, Option.bind_some]
  by_cases hc : k < f 3
  · rw [if_neg (by rw [ii_le (by omega) (by omega)]; omega), if_pos hc, gm1, Option.bind_some, rm1 x F P A f l a b h0 (by omega), Option.bind_some]
  · rw [if_pos (by rw [ii_le (by omega) (by omega)]; omega), if_neg hc]
    rfl
theorem m_isSmall (m : fk_M) {v : Int} (h : -1000 ≤ v) (h2 : v ≤ 1000) : f_X2_isSmall (ii v) m = some (ii (if 97 ≤ v ∧ v ≤ 122 then 1 else 0)) := by
  unfold f_X2_isSmall
  simp (disch := first | omega | assumption) only [Option.bind_some, ii_lit, ii_neg, ii_add, ii_sub, ii_mul, ii_le, ii_lt, ii_eq, ii_ite, ii_or, ii_and, ii_bit, ii_rem, ii_div, b0_, b1_, b2_, b3_, true_and, and_true]
  congr 2
  (repeat' split) <;> omega
theorem m_isDigit (m : fk_M) {v : Int} (h : -1000 ≤ v) (h2 : v ≤ 1000) : f_X2_isDigit (ii v) m = some (ii (if 48 ≤ v ∧ v ≤ 57 then 1 else 0)) := by
  unfold f_X2_isDigit
  simp (disch := first | omega | assumption) only [Option.bind_some, ii_lit, ii_neg, ii_add, ii_sub, ii_mul, ii_le, ii_lt, ii_eq, ii_ite, ii_or, ii_and, ii_bit, ii_rem, ii_div, b0_, b1_, b2_, b3_, true_and, and_true]
  congr 2
  (repeat' split) <;> omega
theorem m_next67 (x : Nat) (F : Nat → Int) (P : Nat → Option Nat) (A : Nat → Int → Int) (f l : Nat → Int) (a : Nat → Int → Int) (b : fk_M) (hT : Tx8 (a 1) (f 3)) {p : Int} (p0 : 0 ≤ p) : ∀ (d N : Nat) (k : Int) (f' : Nat → Int) (a' : Nat → Int → Int), p ≤ k → k ≤ f 3 → f 3 - k < d → d < N → Mk5 f f' → (∀ j, j ≠ 12 → a' j = a j) → f' 8 = k - p → (∀ i : Nat, (i : Int) < k - p → i < 8 → a' 12 i = a 1 (p + i)) → ∃ f2 a2, f_X2_next_L67 (some (x + 8)) N (ii k) (hp x F P A f' l a' b) = some (hp x F P A f2 l a2 b) ∧ Mk5 f f2 ∧ (∀ j, j ≠ 12 → a2 j = a j) ∧ f2 4 = f' 4 ∧ f2 5 = rn (a 1) (f 3) 97 122 d k ∧ f2 6 = (if 8 < rn (a 1) (f 3) 97 122 d k - p then 1 else 2) ∧ f2 8 = rn (a 1) (f 3) 97 122 d k - p ∧ (∀ i : Nat, (i : Int) < rn (a 1) (f 3) 97 122 d k - p → i < 8 → a2 12 i = a 1 (p + i)) := by
  have hn := hT.1
  intro d
  induction d with
  | zero => intro N k f' a' h1 h2 h3; omega
  | succ d ih =>
    intro N k f' a' h1 h2 h3 h4 h5 h6 h7 h8
    obtain ⟨N, rfl⟩ : ∃ M, N = M + 1 := ⟨N - 1, by omega⟩
    have e1 := h6 1 (by omega)
    have e3 : f' 3 = f 3 := h5 3 (by omega) (by omega) (by omega) (by omega) (by omega)
    have hs := m_see x F P A f' l a' b (k := k) (by rw [e1, e3]; exact hT) (by omega) (by omega)
    rw [e1, e3] at hs
    have hc := ch_rg hT (p := k) (by omega)
    have hsm := m_isSmall (hp x F P A f' l a' b) (v := ch (a 1) (f 3) k) (by omega) (by omega)
    have er : rn (a 1) (f 3) 97 122 (d + 1) k = if 97 ≤ ch (a 1) (f 3) k ∧ ch (a 1) (f 3) k ≤ 122 then rn (a 1) (f 3) 97 122 d (k + 1) else k := rfl
    rw [er]
    by_cases hl : 97 ≤ ch (a 1) (f 3) k ∧ ch (a 1) (f 3) k ≤ 122
    · have hk := ch_lt (T := a 1) (n := f 3) (p := k) (by omega)
      have ec : ch (a 1) (f 3) k = a 1 k := by
        unfold ch
        rw [if_pos hk]
      rw [if_pos hl] at hsm
      rw [if_pos hl]
      have hmk : Mk5 f (u1 f' 8 (k - p + 1)) := fun j j1 j2 j3 j4 j5 => (u1_ne _ _ j5).trans (h5 j j1 j2 j3 j4 j5)
      have e4 : u1 f' 8 (k - p + 1) 4 = f' 4 := u1_ne _ _ (by omega)
      by_cases h8' : k - p < 8
      · obtain ⟨f2, a2, g1, g2⟩ := ih N (k + 1) (u1 f' 8 (k - p + 1)) (u2 a' 12 (k - p) (ch (a 1) (f 3) k)) (by omega) (by omega) (by omega) (by omega) hmk (fun j hj => (u2_nk _ _ _ hj).trans (h6 j hj)) (by rw [u1_eq]; omega) (fun i i1 i2 => by
          by_cases hi : (i : Int) = k - p
          · rw [hi, u2_eq, ec, show p + (k - p) = k by omega]
          · rw [u2_ni _ _ _ hi]
            exact h8 i (by omega) i2)
        rw [e4] at g2
        refine ⟨f2, a2, ?_, g2⟩
        rw [f_X2_next_L67, ← g1]
        unfold f_X2_next_J101
        simp (disch := first | omega | assumption) only [Option.bind_some, bn2_some, ii_lit, ii_neg, ii_add, ii_sub, ii_mul, ii_le, ii_lt, ii_eq, ii_ite, ii_or, ii_and, ii_bit, ii_rem, ii_div, b0_, b1_, b2_, b3_, true_and, and_true, u1_eq, u1_ne, u2_eq, u2_nk, u2_ni, uP_eq, uP_ne, gk1, gk2, gk3, gk4, gk10, gk11, gk12, gk13, gk14, gk15, gk17, gkr0, gkr7, gkr8, gkr9, gkr16, gkr18, gkr19, gkr5, gkr6, ok0, ok1, ok2, ok3, gl2_0, gl2_1, gl2_2, gl3_0, gl3_1, gl3_2, gm0, gm2, gm3, gm4, gm5, gm6, gm7, gm8, gm9, gm10, gm11, gm13, gm14, gm22, gm23, gm26, gm27, gm28, gm29, gm31, gm32, gm33, gm36, gm37, gm39, gm40, gm41, gm1, gm12, gm15, gm16, gm17, gm18, gm19, gm20, gm21, gm24, gm25, gm30, gm34, gm35, gm38, rk0, sk0, rk9, sk9, rk16, sk16, rk18, sk18, rk19, sk19, rm1, sm1, rm12, sm12, rm15, sm15, rm16, sm16, rm17, sm17, rm18, sm18, rm19, sm19, rm20, sm20, rm21, sm21, rm24, sm24, rm25, sm25, rm30, sm30, rm34, sm34, rm35, sm35, rm38, sm38, pk1, pk2, pk3, pk4, pk10, pk11, pk12, pk13, pk14, pk15, pk17, pkr5, pkr6, pm0, pm2, pm3, pm4, pm5, pm6, pm7, pm8, pm9, pm10, pm11, pm13, pz13_0, pz13_1, pm14, pz14_0, pz14_1, pm22, pm23, pm26, pm27, pm28, pm29, pm31, pm32, pm33, pm36, pm37, pm39, pm40, pm41, pl2_0, pl2_1, pl2_2, pl3_0, pl3_1, pl3_2, hs, hsm, h7]
        rw [if_neg (by omega), if_neg (by omega)]
      · obtain ⟨f2, a2, g1, g2⟩ := ih N (k + 1) (u1 f' 8 (k - p + 1)) a' (by omega) (by omega) (by omega) (by omega) hmk h6 (by rw [u1_eq]; omega) (fun i i1 i2 => h8 i (by omega) i2)
        rw [e4] at g2
        refine ⟨f2, a2, ?_, g2⟩
        rw [f_X2_next_L67, ← g1]
        unfold f_X2_next_J101
        simp (disch := first | omega | assumption) only [Option.bind_some, bn2_some, ii_lit, ii_neg, ii_add, ii_sub, ii_mul, ii_le, ii_lt, ii_eq, ii_ite, ii_or, ii_and, ii_bit, ii_rem, ii_div, b0_, b1_, b2_, b3_, true_and, and_true, u1_eq, u1_ne, u2_eq, u2_nk, u2_ni, uP_eq, uP_ne, gk1, gk2, gk3, gk4, gk10, gk11, gk12, gk13, gk14, gk15, gk17, gkr0, gkr7, gkr8, gkr9, gkr16, gkr18, gkr19, gkr5, gkr6, ok0, ok1, ok2, ok3, gl2_0, gl2_1, gl2_2, gl3_0, gl3_1, gl3_2, gm0, gm2, gm3, gm4, gm5, gm6, gm7, gm8, gm9, gm10, gm11, gm13, gm14, gm22, gm23, gm26, gm27, gm28, gm29, gm31, gm32, gm33, gm36, gm37, gm39, gm40, gm41, gm1, gm12, gm15, gm16, gm17, gm18, gm19, gm20, gm21, gm24, gm25, gm30, gm34, gm35, gm38, rk0, sk0, rk9, sk9, rk16, sk16, rk18, sk18, rk19, sk19, rm1, sm1, rm12, sm12, rm15, sm15, rm16, sm16, rm17, sm17, rm18, sm18, rm19, sm19, rm20, sm20, rm21, sm21, rm24, sm24, rm25, sm25, rm30, sm30, rm34, sm34, rm35, sm35, rm38, sm38, pk1, pk2, pk3, pk4, pk10, pk11, pk12, pk13, pk14, pk15, pk17, pkr5, pkr6, pm0, pm2, pm3, pm4, pm5, pm6, pm7, pm8, pm9, pm10, pm11, pm13, pz13_0, pz13_1, pm14, pz14_0, pz14_1, pm22, pm23, pm26, pm27, pm28, pm29, pm31, pm32, pm33, pm36, pm37, pm39, pm40, pm41, pl2_0, pl2_1, pl2_2, pl3_0, pl3_1, pl3_2, hs, hsm, h7]
        rw [if_neg (by omega), if_pos (by omega)]
    · rw [if_neg hl] at hsm
      rw [if_neg hl]
      have e8 : u1 f' 5 k 8 = k - p := (u1_ne _ _ (by omega)).trans h7
      refine ⟨u1 (u1 f' 5 k) 6 (if 8 < k - p then 1 else 2), a', ?_, fun j j1 j2 j3 j4 j5 => (u1_ne _ _ j3).trans ((u1_ne _ _ j2).trans (h5 j j1 j2 j3 j4 j5)), h6, (u1_ne _ _ (by omega)).trans (u1_ne _ _ (by omega)), (u1_ne _ _ (by omega)).trans (u1_eq ..), u1_eq .., (u1_ne _ _ (by omega)).trans e8, h8⟩
      rw [f_X2_next_L67]
      simp (disch := first | omega | assumption) only [Option.bind_some, bn2_some, ii_lit, ii_neg, ii_add, ii_sub, ii_mul, ii_le, ii_lt, ii_eq, ii_ite, ii_or, ii_and, ii_bit, ii_rem, ii_div, b0_, b1_, b2_, b3_, true_and, and_true, u1_eq, u1_ne, u2_eq, u2_nk, u2_ni, uP_eq, uP_ne, gk1, gk2, gk3, gk4, gk10, gk11, gk12, gk13, gk14, gk15, gk17, gkr0, gkr7, gkr8, gkr9, gkr16, gkr18, gkr19, gkr5, gkr6, ok0, ok1, ok2, ok3, gl2_0, gl2_1, gl2_2, gl3_0, gl3_1, gl3_2, gm0, gm2, gm3, gm4, gm5, gm6, gm7, gm8, gm9, gm10, gm11, gm13, gm14, gm22, gm23, gm26, gm27, gm28, gm29, gm31, gm32, gm33, gm36, gm37, gm39, gm40, gm41, gm1, gm12, gm15, gm16, gm17, gm18, gm19, gm20, gm21, gm24, gm25, gm30, gm34, gm35, gm38, rk0, sk0, rk9, sk9, rk16, sk16, rk18, sk18, rk19, sk19, rm1, sm1, rm12, sm12, rm15, sm15, rm16, sm16, rm17, sm17, rm18, sm18, rm19, sm19, rm20, sm20, rm21, sm21, rm24, sm24, rm25, sm25, rm30, sm30, rm34, sm34, rm35, sm35, rm38, sm38, pk1, pk2, pk3, pk4, pk10, pk11, pk12, pk13, pk14, pk15, pk17, pkr5, pkr6, pm0, pm2, pm3, pm4, pm5, pm6, pm7, pm8, pm9, pm10, pm11, pm13, pz13_0, pz13_1, pm14, pz14_0, pz14_1, pm22, pm23, pm26, pm27, pm28, pm29, pm31, pm32, pm33, pm36, pm37, pm39, pm40, pm41, pl2_0, pl2_1, pl2_2, pl3_0, pl3_1, pl3_2, hs, hsm, e8, h7]
      rw [if_pos (by trivial)]
      by_cases h9 : 8 < k - p
      · rw [if_pos h9, if_neg (show ¬ k - p ≤ 8 by omega)]
      · rw [if_neg h9, if_pos (show k - p ≤ 8 by omega)]
theorem nmv_rg {T : Int → Int} {p : Int} : ∀ m : Nat, m ≤ 3 → (∀ i : Nat, i < m → 48 ≤ T (p + i) ∧ T (p + i) ≤ 57) → 0 ≤ nmv T p m ∧ nmv T p m ≤ 999 ∧ (m ≤ 2 → nmv T p m ≤ 99) ∧ (m ≤ 1 → nmv T p m ≤ 9) ∧ (m = 0 → nmv T p m = 0) := by
  intro m
  induction m with
  | zero =>
    intro _ _
    show 0 ≤ (0 : Int) ∧ (0 : Int) ≤ 999 ∧ (0 ≤ 2 → (0 : Int) ≤ 99) ∧ (0 ≤ 1 → (0 : Int) ≤ 9) ∧ (0 = 0 → (0 : Int) = 0)
    omega
  | succ m ih =>
    intro h1 h2
    have h3 := ih (by omega) (fun i hi => h2 i (by omega))
    have h4 := h2 m (by omega)
    have e : nmv T p (m + 1) = 10 * nmv T p m + T (p + (m : Int)) - 48 := rfl
    rw [e]
    refine ⟨by omega, by omega, fun h => by omega, fun h => by omega, fun h => by omega⟩
theorem m_next152 (x : Nat) (F : Nat → Int) (P : Nat → Option Nat) (A : Nat → Int → Int) (f l : Nat → Int) (a : Nat → Int → Int) (b : fk_M) (hT : Tx8 (a 1) (f 3)) {p : Int} (p0 : 0 ≤ p) : ∀ (d N : Nat) (k : Int) (f' : Nat → Int), p ≤ k → k ≤ f 3 → f 3 - k < d → d < N → Mk5 f f' → (∀ i, p ≤ i → i < k → 48 ≤ ch (a 1) (f 3) i ∧ ch (a 1) (f 3) i ≤ 57) → f' 7 = nmv (a 1) p (min 3 (k - p).toNat) → ∃ f2, f_X2_next_L152 (some (x + 8)) N (ii k) (ii (k - p)) (hp x F P A f' l a b) = some (hp x F P A f2 l a b) ∧ Mk5 f f2 ∧ f2 4 = f' 4 ∧ f2 5 = rn (a 1) (f 3) 48 57 d k ∧ f2 6 = (if 3 < rn (a 1) (f 3) 48 57 d k - p then 1 else 3) ∧ f2 7 = nmv (a 1) p (min 3 (rn (a 1) (f 3) 48 57 d k - p).toNat) := by
  have hn := hT.1
  intro d
  induction d with
  | zero => intro N k f' h1 h2 h3; omega
  | succ d ih =>
    intro N k f' h1 h2 h3 h4 h5 h6 h7
    obtain ⟨N, rfl⟩ : ∃ M, N = M + 1 := ⟨N - 1, by omega⟩
    have e3 : f' 3 = f 3 := h5 3 (by omega) (by omega) (by omega) (by omega) (by omega)
    have hs := m_see x F P A f' l a b (k := k) (by rw [e3]; exact hT) (by omega) (by omega)
    rw [e3] at hs
    have hc := ch_rg hT (p := k) (by omega)
    have hsm := m_isDigit (hp x F P A f' l a b) (v := ch (a 1) (f 3) k) (by omega) (by omega)
    have er : rn (a 1) (f 3) 48 57 (d + 1) k = if 48 ≤ ch (a 1) (f 3) k ∧ ch (a 1) (f 3) k ≤ 57 then rn (a 1) (f 3) 48 57 d (k + 1) else k := rfl
    rw [er]
    by_cases hl : 48 ≤ ch (a 1) (f 3) k ∧ ch (a 1) (f 3) k ≤ 57
    · have hk := ch_lt (T := a 1) (n := f 3) (p := k) (by omega)
      have ec : ch (a 1) (f 3) k = a 1 k := by
        unfold ch
        rw [if_pos hk]
      rw [if_pos hl] at hsm
      rw [if_pos hl]
      have h6' : ∀ i, p ≤ i → i < k + 1 → 48 ≤ ch (a 1) (f 3) i ∧ ch (a 1) (f 3) i ≤ 57 := fun i i1 i2 => by
        by_cases hi : i = k
        · rw [hi]; exact hl
        · exact h6 i i1 (by omega)
      by_cases h8' : k - p < 3
      · have hnr := nmv_rg (T := a 1) (p := p) (min 3 (k - p).toNat) (by omega) (fun i hi => by
          have := h6 (p + i) (by omega) (by omega)
          unfold ch at this
          rw [if_pos (by omega)] at this
          exact this)
        have em : nmv (a 1) p (min 3 (k + 1 - p).toNat) = 10 * nmv (a 1) p (min 3 (k - p).toNat) + ch (a 1) (f 3) k - 48 := by
          rw [show min 3 (k + 1 - p).toNat = min 3 (k - p).toNat + 1 by omega, ec]
          show 10 * nmv (a 1) p (min 3 (k - p).toNat) + a 1 (p + ((min 3 (k - p).toNat : Nat) : Int)) - 48 = _
          rw [show p + ((min 3 (k - p).toNat : Nat) : Int) = k by omega]
        obtain ⟨f2, g1, g2⟩ := ih N (k + 1) (u1 f' 7 (10 * nmv (a 1) p (min 3 (k - p).toNat) + ch (a 1) (f 3) k - 48)) (by omega) (by omega) (by omega) (by omega) (fun j j1 j2 j3 j4 j5 => (u1_ne _ _ j4).trans (h5 j j1 j2 j3 j4 j5)) h6' (by rw [u1_eq, em])
        rw [show u1 f' 7 (10 * nmv (a 1) p (min 3 (k - p).toNat) + ch (a 1) (f 3) k - 48) 4 = f' 4 from u1_ne _ _ (by omega)] at g2
        refine ⟨f2, ?_, g2⟩
        rw [f_X2_next_L152, ← g1, show k + 1 - p = k - p + 1 by omega]
        unfold f_X2_next_J188
        simp (disch := first | omega | assumption) only [Option.bind_some, bn2_some, ii_lit, ii_neg, ii_add, ii_sub, ii_mul, ii_le, ii_lt, ii_eq, ii_ite, ii_or, ii_and, ii_bit, ii_rem, ii_div, b0_, b1_, b2_, b3_, true_and, and_true, u1_eq, u1_ne, u2_eq, u2_nk, u2_ni, uP_eq, uP_ne, gk1, gk2, gk3, gk4, gk10, gk11, gk12, gk13, gk14, gk15, gk17, gkr0, gkr7, gkr8, gkr9, gkr16, gkr18, gkr19, gkr5, gkr6, ok0, ok1, ok2, ok3, gl2_0, gl2_1, gl2_2, gl3_0, gl3_1, gl3_2, gm0, gm2, gm3, gm4, gm5, gm6, gm7, gm8, gm9, gm10, gm11, gm13, gm14, gm22, gm23, gm26, gm27, gm28, gm29, gm31, gm32, gm33, gm36, gm37, gm39, gm40, gm41, gm1, gm12, gm15, gm16, gm17, gm18, gm19, gm20, gm21, gm24, gm25, gm30, gm34, gm35, gm38, rk0, sk0, rk9, sk9, rk16, sk16, rk18, sk18, rk19, sk19, rm1, sm1, rm12, sm12, rm15, sm15, rm16, sm16, rm17, sm17, rm18, sm18, rm19, sm19, rm20, sm20, rm21, sm21, rm24, sm24, rm25, sm25, rm30, sm30, rm34, sm34, rm35, sm35, rm38, sm38, pk1, pk2, pk3, pk4, pk10, pk11, pk12, pk13, pk14, pk15, pk17, pkr5, pkr6, pm0, pm2, pm3, pm4, pm5, pm6, pm7, pm8, pm9, pm10, pm11, pm13, pz13_0, pz13_1, pm14, pz14_0, pz14_1, pm22, pm23, pm26, pm27, pm28, pm29, pm31, pm32, pm33, pm36, pm37, pm39, pm40, pm41, pl2_0, pl2_1, pl2_2, pl3_0, pl3_1, pl3_2, hs, hsm, h7]
        rw [if_neg (by omega), if_neg (by omega)]
      · obtain ⟨f2, g1, g2⟩ := ih N (k + 1) f' (by omega) (by omega) (by omega) (by omega) h5 h6' (by rw [h7, show min 3 (k + 1 - p).toNat = min 3 (k - p).toNat by omega])
        refine ⟨f2, ?_, g2⟩
        rw [f_X2_next_L152, ← g1, show k + 1 - p = k - p + 1 by omega]
        unfold f_X2_next_J188
        simp (disch := first | omega | assumption) only [Option.bind_some, bn2_some, ii_lit, ii_neg, ii_add, ii_sub, ii_mul, ii_le, ii_lt, ii_eq, ii_ite, ii_or, ii_and, ii_bit, ii_rem, ii_div, b0_, b1_, b2_, b3_, true_and, and_true, u1_eq, u1_ne, u2_eq, u2_nk, u2_ni, uP_eq, uP_ne, gk1, gk2, gk3, gk4, gk10, gk11, gk12, gk13, gk14, gk15, gk17, gkr0, gkr7, gkr8, gkr9, gkr16, gkr18, gkr19, gkr5, gkr6, ok0, ok1, ok2, ok3, gl2_0, gl2_1, gl2_2, gl3_0, gl3_1, gl3_2, gm0, gm2, gm3, gm4, gm5, gm6, gm7, gm8, gm9, gm10, gm11, gm13, gm14, gm22, gm23, gm26, gm27, gm28, gm29, gm31, gm32, gm33, gm36, gm37, gm39, gm40, gm41, gm1, gm12, gm15, gm16, gm17, gm18, gm19, gm20, gm21, gm24, gm25, gm30, gm34, gm35, gm38, rk0, sk0, rk9, sk9, rk16, sk16, rk18, sk18, rk19, sk19, rm1, sm1, rm12, sm12, rm15, sm15, rm16, sm16, rm17, sm17, rm18, sm18, rm19, sm19, rm20, sm20, rm21, sm21, rm24, sm24, rm25, sm25, rm30, sm30, rm34, sm34, rm35, sm35, rm38, sm38, pk1, pk2, pk3, pk4, pk10, pk11, pk12, pk13, pk14, pk15, pk17, pkr5, pkr6, pm0, pm2, pm3, pm4, pm5, pm6, pm7, pm8, pm9, pm10, pm11, pm13, pz13_0, pz13_1, pm14, pz14_0, pz14_1, pm22, pm23, pm26, pm27, pm28, pm29, pm31, pm32, pm33, pm36, pm37, pm39, pm40, pm41, pl2_0, pl2_1, pl2_2, pl3_0, pl3_1, pl3_2, hs, hsm, h7]
        rw [if_neg (by omega), if_pos (by omega)]
    · rw [if_neg hl] at hsm
      rw [if_neg hl]
      refine ⟨u1 (u1 f' 5 k) 6 (if 3 < k - p then 1 else 3), ?_, fun j j1 j2 j3 j4 j5 => (u1_ne _ _ j3).trans ((u1_ne _ _ j2).trans (h5 j j1 j2 j3 j4 j5)), (u1_ne _ _ (by omega)).trans (u1_ne _ _ (by omega)), (u1_ne _ _ (by omega)).trans (u1_eq ..), u1_eq .., (u1_ne _ _ (by omega)).trans ((u1_ne _ _ (by omega)).trans h7)⟩
      rw [f_X2_next_L152]
      simp (disch := first | omega | assumption) only [Option.bind_some, bn2_some, ii_lit, ii_neg, ii_add, ii_sub, ii_mul, ii_le, ii_lt, ii_eq, ii_ite, ii_or, ii_and, ii_bit, ii_rem, ii_div, b0_, b1_, b2_, b3_, true_and, and_true, u1_eq, u1_ne, u2_eq, u2_nk, u2_ni, uP_eq, uP_ne, gk1, gk2, gk3, gk4, gk10, gk11, gk12, gk13, gk14, gk15, gk17, gkr0, gkr7, gkr8, gkr9, gkr16, gkr18, gkr19, gkr5, gkr6, ok0, ok1, ok2, ok3, gl2_0, gl2_1, gl2_2, gl3_0, gl3_1, gl3_2, gm0, gm2, gm3, gm4, gm5, gm6, gm7, gm8, gm9, gm10, gm11, gm13, gm14, gm22, gm23, gm26, gm27, gm28, gm29, gm31, gm32, gm33, gm36, gm37, gm39, gm40, gm41, gm1, gm12, gm15, gm16, gm17, gm18, gm19, gm20, gm21, gm24, gm25, gm30, gm34, gm35, gm38, rk0, sk0, rk9, sk9, rk16, sk16, rk18, sk18, rk19, sk19, rm1, sm1, rm12, sm12, rm15, sm15, rm16, sm16, rm17, sm17, rm18, sm18, rm19, sm19, rm20, sm20, rm21, sm21, rm24, sm24, rm25, sm25, rm30, sm30, rm34, sm34, rm35, sm35, rm38, sm38, pk1, pk2, pk3, pk4, pk10, pk11, pk12, pk13, pk14, pk15, pk17, pkr5, pkr6, pm0, pm2, pm3, pm4, pm5, pm6, pm7, pm8, pm9, pm10, pm11, pm13, pz13_0, pz13_1, pm14, pz14_0, pz14_1, pm22, pm23, pm26, pm27, pm28, pm29, pm31, pm32, pm33, pm36, pm37, pm39, pm40, pm41, pl2_0, pl2_1, pl2_2, pl3_0, pl3_1, pl3_2, hs, hsm]
      rw [if_pos (by trivial)]
      by_cases h9 : 3 < k - p
      · rw [if_pos h9, if_neg (show ¬ k - p ≤ 3 by omega)]
      · rw [if_neg h9, if_pos (show k - p ≤ 3 by omega)]
