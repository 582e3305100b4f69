/-! PLAIN 35: words; the model reads -/
set_option maxRecDepth 100000
def kw : Nat → List Int
  | 0 => []
  | 1 => []
  | 2 => [112, 105, 101, 114]
  | 3 => [112, 97, 105, 114]
  | 4 => [99, 111, 110, 116, 114, 97, 99, 116]
  | 5 => [100, 101, 98, 116]
  | 6 => [117, 110, 115, 117, 114, 101]
  | 7 => [104, 101, 97, 114, 100]
  | 8 => [119, 111, 114, 100, 115]
  | 9 => [100, 117, 109, 98]
  | 10 => [112, 105, 101, 114]
  | 11 => [112, 97, 105, 114]
  | 12 => [99, 111, 110, 116, 114, 97, 99, 116]
  | 13 => [100, 101, 98, 116]
  | 14 => [117, 110, 115, 117, 114, 101]
  | 15 => [104, 101, 97, 114, 100]
  | 16 => [99, 114, 101, 101, 112, 105, 110, 103]
  | 17 => [108, 101, 97, 112, 105, 110, 103]
  | 18 => [102, 97, 100, 105, 110, 103]
  | 19 => [115, 119, 105, 110, 103, 105, 110, 103]
  | 20 => [102, 105, 103, 117, 114, 101]
  | 21 => [115, 116, 101, 112]
  | 22 => [101, 118, 101, 114, 121]
  | 23 => [115, 101, 97, 115, 111, 110]
  | 24 => [112, 105, 101, 114]
  | 25 => [119, 111, 114, 100, 115]
  | 26 => [100, 117, 109, 98]
  | 27 => [112, 97, 105, 114]
  | 28 => [99, 111, 110, 116, 114, 97, 99, 116]
  | 29 => [100, 101, 98, 116]
  | 30 => [117, 110, 115, 117, 114, 101]
  | 31 => [104, 101, 97, 114, 100]
  | 32 => [99, 114, 101, 101, 112, 105, 110, 103]
  | 33 => [108, 101, 97, 112, 105, 110, 103]
  | 34 => [102, 97, 100, 105, 110, 103]
  | 35 => [115, 119, 105, 110, 103, 105, 110, 103]
  | 36 => [102, 105, 103, 117, 114, 101]
  | 37 => [115, 116, 101, 112]
  | 38 => [101, 118, 101, 114, 121]
  | 39 => [115, 101, 97, 115, 111, 110]
  | _ => []
def hsh : List Int → Int32 → Int32
  | [], h => h
  | c :: cs, h => hsh cs (31 * h + ii c)
/-- a String's cells -/
def Str (x : Nat) (b : fk_M) (q : Nat) (w : List Int) : Prop := Ob x q ∧ ∃ (wr : Bool) (V : Nat → fk_T) (v : Nat) (wv : Bool) (gv : Nat → Int32), b q = some (wr, oB 16 V) ∧ V 0 = tR (some v) ∧ V 1 = tI 0 ∧ Ob x v ∧ b v = some (wv, aN 1 w.length gv) ∧ (∀ i : Nat, i < w.length → gv i = ii (w.getD i 0)) ∧ ((∃ z : Int32, V 2 = tI z ∧ z ≠ 0 ∧ z = hsh w 0) ∨ (V 2 = tI 0 ∧ V 3 = tI 1 ∧ hsh w 0 = 0) ∨ (V 2 = tI 0 ∧ V 3 = tI 0 ∧ wr = true))
def Cn (x : Nat) (b : fk_M) (g : Nat → Nat) : Prop := ∀ i, i < 40 → Str x b (g i) (kw i)
/-- letters, eight at most -/
def Lt (w : List Int) : Prop := w.length ≤ 8 ∧ ∀ i : Nat, i < w.length → 97 ≤ w.getD i 0 ∧ w.getD i 0 ≤ 122
theorem kw_Lt : ∀ i : Fin 40, (kw i.val).length ≤ 8 ∧ ∀ j : Fin 8, j.val < (kw i.val).length → 97 ≤ (kw i.val).getD j.val 0 ∧ (kw i.val).getD j.val 0 ≤ 122 := by decide
theorem kw_lt {i : Nat} (h : i < 40) : Lt (kw i) := ⟨(kw_Lt ⟨i, h⟩).1, fun j hj => (kw_Lt ⟨i, h⟩).2 ⟨j, by have := (kw_Lt ⟨i, h⟩).1; have : (kw i).length ≤ 8 := this; omega⟩ hj⟩
theorem w_eq {w v : List Int} : w = v ↔ w.length = v.length ∧ ∀ i : Nat, i < w.length → w.getD i 0 = v.getD i 0 := by
  constructor
  · rintro rfl
    exact ⟨rfl, fun _ _ => rfl⟩
  · rintro ⟨h1, h2⟩
    apply List.ext_getElem h1
    intro i h3 h4
    have := h2 i h3
    rw [List.getD_eq_getElem?_getD, List.getD_eq_getElem?_getD, List.getElem?_eq_getElem h3, List.getElem?_eq_getElem h4] at this
    exact this
theorem ii_and255 {v : Int} (h0 : 0 ≤ v) (h1 : v ≤ 255) : ii v &&& 255 = ii v := by
  obtain ⟨k, rfl⟩ : ∃ k : Nat, v = k := ⟨v.toNat, by omega⟩
  have h : ∀ k : Fin 256, ii (k.val : Int) &&& 255 = ii (k.val : Int) := by decide +kernel
  exact h ⟨k, by omega⟩
theorem ii_c {v : Int} (h0 : 0 ≤ v) (h1 : v ≤ 255) : i_c (ii v) = ii v := by
  obtain ⟨k, rfl⟩ : ∃ k : Nat, v = k := ⟨v.toNat, by omega⟩
  have h : ∀ k : Fin 256, i_c (ii (k.val : Int)) = ii (k.val : Int) := by decide +kernel
  exact h ⟨k, by omega⟩
theorem str_len (x : Nat) (F : Nat → Int) (P : Nat → Option Nat) (A : Nat → Int → Int) (f l : Nat → Int) (a : Nat → Int → Int) (b : fk_M) {q : Nat} {w : List Int} (h : Str x b q w) : isO (hp x F P A f l a b) (some q) 16 = some () ∧ f_J5_length (some q) (hp x F P A f l a b) = some (ii w.length) := by
  obtain ⟨ho, wr, V, v, wv, gv, h1, h2, h3, ov, h4, h5, -⟩ := h
  have k1 := (hp_out x F P A f l a b ho).trans h1
  have k4 := (hp_out x F P A f l a b ov).trans h4
  refine ⟨isO_of k1, ?_⟩
  unfold f_J5_length f_J5_coder
  rw [gR_of k1 h2, Option.bind_some, aLn_ofI k4, Option.bind_some, isO_of k1, Option.bind_some, gI_of k1 h3, Option.bind_some, if_pos (show i_b 0 = 0 by decide), Option.bind_some]
  have hz : ∀ z : Int32, i_shr z 0 = z := by
    intro z
    apply Int32.toBitVec_inj.mp
    show z.toBitVec.sshiftRight' _ = _
    exact BitVec.sshiftRight_zero
  rw [hz]
theorem str_at (x : Nat) (F : Nat → Int) (P : Nat → Option Nat) (A : Nat → Int → Int) (f l : Nat → Int) (a : Nat → Int → Int) (b : fk_M) {q : Nat} {w : List Int} (h : Str x b q w) (hl : Lt w) (g : Nat → Nat) {i : Nat} (hi : i < w.length) : f_J5_charAt g (some q) (ii i) (hp x F P A f l a b) = some (ii (w.getD i 0)) := by
  obtain ⟨ho, wr, V, v, wv, gv, h1, h2, h3, ov, h4, h5, -⟩ := h
  have k1 := (hp_out x F P A f l a b ho).trans h1
  have k4 := (hp_out x F P A f l a b ov).trans h4
  have hw := hl.2 i hi
  have h8 := hl.1
  unfold f_J5_charAt f_J5_isLatin1 f_J10_charAt f_J5_checkIndex f_J11_checkIndex
  have c1 : ¬ ii (i : Int) < 0 := by
    rw [show (0 : Int32) = ii 0 from rfl, ii_lt (by omega) (by omega)]
    omega
  have c2 : ii (i : Int) < ii (w.length : Int) := by
    rw [ii_lt (by omega) (by omega)]
    omega
  rw [isO_of k1, Option.bind_some, gI_of k1 h3, Option.bind_some, Option.bind_some, if_pos rfl, if_neg (show ¬ (1 : Int32) = 0 by decide), gR_of k1 h2, Option.bind_some, aLn_ofI k4, Option.bind_some, if_neg c1, if_pos c2, Option.bind_some, Option.bind_some, aI_of k4 (by omega) (by omega) (by omega), Option.bind_some, show ((i : Int)).toNat = i from rfl, h5 i hi, ii_and255 (by omega) (by omega), ii_c (by omega) (by omega), ii_c (by omega) (by omega), if_pos rfl, Option.bind_some, ii_c (by omega) (by omega), if_pos rfl]
/-! what a token keeps to -/
def Tok8 (n : Int) (t : Tkn) : Prop := (0 ≤ t.2.1 ∧ t.2.1 ≤ n) ∧ (0 ≤ t.2.2.1 ∧ t.2.2.1 ≤ n) ∧ (0 ≤ t.1 ∧ t.1 ≤ 4) ∧ (t.1 = 3 → 0 ≤ t.2.2.2.1 ∧ t.2.2.2.1 ≤ 999) ∧ Lt t.2.2.2.2 ∧ (t.1 = 2 → 1 ≤ t.2.2.2.2.length) ∧ (-1000 ≤ t.2.2.2.1 ∧ t.2.2.2.1 ≤ 1000)
theorem tkn_ok {T : Int → Int} {n e : Int} (hT : Tx8 T n) (h0 : 0 ≤ e) (h1 : e ≤ n) : Tok8 n (tkn T n e) := by
  have hs := skp_rg (T := T) (n := n) 901 e h1
  have hc := ch_rg hT (p := skp T n 901 e) (by omega)
  have hnil : Lt [] := ⟨by decide, fun i hi => absurd hi (by show ¬ i < 0; omega)⟩
  unfold tkn
  generalize hp : skp T n 901 e = p at hs hc ⊢
  by_cases c1 : ch T n p = -1
  · rw [if_pos c1]
    exact ⟨⟨by show 0 ≤ p; omega, hs.2⟩, ⟨by show 0 ≤ p; omega, hs.2⟩, by show (0 : Int) ≤ 1 ∧ (1 : Int) ≤ 4; omega, fun h => absurd (show (1 : Int) = 3 from h) (by decide), hnil, fun h => absurd (show (1 : Int) = 2 from h) (by decide), by show -1000 ≤ (0 : Int) ∧ (0 : Int) ≤ 1000; omega⟩
  have hpn := ch_lt c1
  rw [if_neg c1]
  by_cases c2 : 97 ≤ ch T n p ∧ ch T n p ≤ 122
  · have hr := rn_rg (T := T) (n := n) (lo := 97) (hi := 122) (by omega) 901 p hs.2
    have hin := rn_in (T := T) (n := n) (lo := 97) (hi := 122) (by omega) 901 p
    have hgt : p < rn T n 97 122 901 p := by
      have : p + 1 ≤ rn T n 97 122 901 p := by
        show p + 1 ≤ (if 97 ≤ ch T n p ∧ ch T n p ≤ 122 then rn T n 97 122 900 (p + 1) else p)
        rw [if_pos c2]
        exact (rn_rg (T := T) (n := n) (lo := 97) (hi := 122) (by omega) 900 (p + 1) (by omega)).1
      omega
    rw [if_pos c2]
    refine ⟨⟨by show 0 ≤ p; omega, hs.2⟩, ⟨by show 0 ≤ rn T n 97 122 901 p; omega, hr.2⟩, by show 0 ≤ (if 8 < _ then (0 : Int) else 2) ∧ _; split <;> omega, fun h => ?_, ⟨?_, fun i hi => ?_⟩, fun h => ?_, by show -1000 ≤ (0 : Int) ∧ (0 : Int) ≤ 1000; omega⟩
    · have h : (if 8 < rn T n 97 122 901 p - p then (0 : Int) else 2) = 3 := h
      split at h <;> omega
    · show (wdl T p _).length ≤ 8
      rw [wdl_len]
      omega
    · have hi : i < (wdl T p (min 8 (rn T n 97 122 901 p - p).toNat)).length := hi
      rw [wdl_len] at hi
      show 97 ≤ (wdl T p (min 8 (rn T n 97 122 901 p - p).toNat)).getD i 0 ∧ (wdl T p (min 8 (rn T n 97 122 901 p - p).toNat)).getD i 0 ≤ 122
      rw [wdl_get T p hi]
      have := hin (p + i) (by omega) (by omega)
      unfold ch at this
      rw [if_pos (by omega)] at this
      exact this
    · show 1 ≤ (wdl T p _).length
      rw [wdl_len]
      omega
  rw [if_neg c2]
  by_cases c3 : 48 ≤ ch T n p ∧ ch T n p ≤ 57
  · have hr := rn_rg (T := T) (n := n) (lo := 48) (hi := 57) (by omega) 901 p hs.2
    have hin := rn_in (T := T) (n := n) (lo := 48) (hi := 57) (by omega) 901 p
    have hnr := nmv_rg (T := T) (p := p) (min 3 (rn T n 48 57 901 p - p).toNat) (by omega) (fun i hi => by
      have := hin (p + i) (by omega) (by omega)
      unfold ch at this
      rw [if_pos (by omega)] at this
      exact this)
    rw [if_pos c3]
    refine ⟨⟨by show 0 ≤ p; omega, hs.2⟩, ⟨by show 0 ≤ rn T n 48 57 901 p; omega, hr.2⟩, by show 0 ≤ (if 3 < _ then (0 : Int) else 3) ∧ _; split <;> omega, fun h => ⟨hnr.1, hnr.2.1⟩, hnil, fun h => ?_, ?_⟩
    · have h : (if 3 < rn T n 48 57 901 p - p then (0 : Int) else 3) = 2 := h
      split at h <;> omega
    · show -1000 ≤ nmv T p _ ∧ nmv T p _ ≤ 1000
      omega
  · rw [if_neg c3]
    refine ⟨⟨by show 0 ≤ p; omega, hs.2⟩, ⟨by show 0 ≤ p + 1; omega, by show p + 1 ≤ n; omega⟩, by show 0 ≤ (if ch T n p = 59 then (4 : Int) else 0) ∧ _; split <;> omega, fun h => ?_, hnil, fun h => ?_, by show -1000 ≤ ch T n p ∧ ch T n p ≤ 1000; omega⟩
    · have h : (if ch T n p = 59 then (4 : Int) else 0) = 3 := h
      split at h <;> omega
    · have h : (if ch T n p = 59 then (4 : Int) else 0) = 2 := h
      split at h <;> omega
theorem m_next (x : Nat) (F : Nat → Int) (P : Nat → Option Nat) (A : Nat → Int → Int) (f l : Nat → Int) (a : Nat → Int → Int) (b : fk_M) (hT : Tx8 (a 1) (f 3)) (h0 : 0 ≤ f 5) (h1 : f 5 ≤ f 3) : ∃ f' a', f_X2_next (some (x + 8)) (hp x F P A f l a b) = some (hp x F P A f' l a' b) ∧ Mk5 f f' ∧ (∀ j, j ≠ 12 → a' j = a j) ∧ TokM f' a' (tkn (a 1) (f 3) (f 5)) := by
  have hn := hT.1
  have hsk : ∀ (d N : Nat) (k : Int), 0 ≤ k → k ≤ f 3 → f 3 - k < d → d < N → ∃ M, f_X2_next_L5 (some (x + 8)) (hp x F P A f l a b) N (ii k) = f_X2_next_L5 (some (x + 8)) (hp x F P A f l a b) (M + 1) (ii (skp (a 1) (f 3) d k)) := by
    intro d
    induction d with
    | zero => intro N k h1 h2 h3; omega
    | succ d ih =>
      intro N k h1 h2 h3 h4
      obtain ⟨N, rfl⟩ : ∃ M, N = M + 1 := ⟨N - 1, by omega⟩
      have hs := m_see x F P A f l a b (k := k) hT h1 h2
      have hc := ch_rg hT h1
      have e : skp (a 1) (f 3) (d + 1) k = if ch (a 1) (f 3) k = 32 then skp (a 1) (f 3) d (k + 1) else k := rfl
      rw [e]
      by_cases hsp : ch (a 1) (f 3) k = 32
      · have hk := ch_lt (T := a 1) (n := f 3) (p := k) (by omega)
        obtain ⟨M, hM⟩ := ih N (k + 1) (by omega) (by omega) (by omega) (by omega)
        refine ⟨M, ?_⟩
        rw [if_pos hsp, ← hM, f_X2_next_L5]
        rw [hsp] at hs
        simp (disch := first | omega | assumption) only [Option.bind_some, bn2_some, ii_lit, ii_neg, ii_add, ii_sub, ii_mul, ii_le, ii_lt, ii_eq, ii_ite, ii_or, ii_and, ii_bit, ii_rem, ii_div, b0_, b1_, b2_, b3_, true_and, and_true, u1_eq, u1_ne, u2_eq, u2_nk, u2_ni, uP_eq, uP_ne, gk1, gk2, gk3, gk4, gk10, gk11, gk12, gk13, gk14, gk15, gk17, gkr0, gkr7, gkr8, gkr9, gkr16, gkr18, gkr19, gkr5, gkr6, ok0, ok1, ok2, ok3, gl2_0, gl2_1, gl2_2, gl3_0, gl3_1, gl3_2, gm0, gm2, gm3, gm4, gm5, gm6, gm7, gm8, gm9, gm10, gm11, gm13, gm14, gm22, gm23, gm26, gm27, gm28, gm29, gm31, gm32, gm33, gm36, gm37, gm39, gm40, gm41, gm1, gm12, gm15, gm16, gm17, gm18, gm19, gm20, gm21, gm24, gm25, gm30, gm34, gm35, gm38, rk0, sk0, rk9, sk9, rk16, sk16, rk18, sk18, rk19, sk19, rm1, sm1, rm12, sm12, rm15, sm15, rm16, sm16, rm17, sm17, rm18, sm18, rm19, sm19, rm20, sm20, rm21, sm21, rm24, sm24, rm25, sm25, rm30, sm30, rm34, sm34, rm35, sm35, rm38, sm38, pk1, pk2, pk3, pk4, pk10, pk11, pk12, pk13, pk14, pk15, pk17, pkr5, pkr6, pm0, pm2, pm3, pm4, pm5, pm6, pm7, pm8, pm9, pm10, pm11, pm13, pz13_0, pz13_1, pm14, pz14_0, pz14_1, pm22, pm23, pm26, pm27, pm28, pm29, pm31, pm32, pm33, pm36, pm37, pm39, pm40, pm41, pl2_0, pl2_1, pl2_2, pl3_0, pl3_1, pl3_2, hs]
        rw [if_pos trivial]
      · rw [if_neg hsp]
        exact ⟨N, rfl⟩
  obtain ⟨M, hM⟩ := hsk 901 fk_fuel (f 5) h0 h1 (by omega) (by unfold fk_fuel; omega)
  have hs := skp_rg (T := a 1) (n := f 3) 901 (f 5) h1
  have hns := skp_no (T := a 1) (n := f 3) 901 (f 5) (by omega)
  unfold f_X2_next
  rw [gm5, Option.bind_some, hM]
  unfold tkn
  generalize skp (a 1) (f 3) 901 (f 5) = p at hs hns ⊢
  have hc := ch_rg hT (p := p) (by omega)
  have hse := m_see x F P A f l a b (k := p) hT (by omega) hs.2
  have hse4 := m_see x F P A (u1 f 4 p) l a b (k := p) hT (by omega) hs.2
  have e43 : u1 f 4 p 3 = f 3 := u1_ne _ _ (by omega)
  rw [e43] at hse4
  obtain ⟨f1, hf1⟩ : ∃ f1, f1 = u1 (u1 (u1 f 4 p) 8 0) 7 0 := ⟨_, rfl⟩
  have hmk1 : Mk5 f f1 := fun j j1 j2 j3 j4 j5 => by rw [hf1, u1_ne _ _ j4, u1_ne _ _ j5, u1_ne _ _ j1]
  have f14 : f1 4 = p := by rw [hf1, u1_ne _ _ (by omega), u1_ne _ _ (by omega), u1_eq]
  have f17 : f1 7 = 0 := by rw [hf1, u1_eq]
  have f18 : f1 8 = 0 := by rw [hf1, u1_ne _ _ (by omega), u1_eq]
  have hsm := m_isSmall (hp x F P A f1 l a b) (v := ch (a 1) (f 3) p) (by omega) (by omega)
  have hdg := m_isDigit (hp x F P A f1 l a b) (v := ch (a 1) (f 3) p) (by omega) (by omega)
  rw [hf1] at hsm hdg
  rw [f_X2_next_L5]
  simp (disch := first | omega | assumption) only [Option.bind_some, bn2_some, ii_lit, ii_neg, ii_add, ii_sub, ii_mul, ii_le, ii_lt, ii_eq, ii_ite, ii_or, ii_and, ii_bit, ii_rem, ii_div, b0_, b1_, b2_, b3_, true_and, and_true, u1_eq, u1_ne, u2_eq, u2_nk, u2_ni, uP_eq, uP_ne, gk1, gk2, gk3, gk4, gk10, gk11, gk12, gk13, gk14, gk15, gk17, gkr0, gkr7, gkr8, gkr9, gkr16, gkr18, gkr19, gkr5, gkr6, ok0, ok1, ok2, ok3, gl2_0, gl2_1, gl2_2, gl3_0, gl3_1, gl3_2, gm0, gm2, gm3, gm4, gm5, gm6, gm7, gm8, gm9, gm10, gm11, gm13, gm14, gm22, gm23, gm26, gm27, gm28, gm29, gm31, gm32, gm33, gm36, gm37, gm39, gm40, gm41, gm1, gm12, gm15, gm16, gm17, gm18, gm19, gm20, gm21, gm24, gm25, gm30, gm34, gm35, gm38, rk0, sk0, rk9, sk9, rk16, sk16, rk18, sk18, rk19, sk19, rm1, sm1, rm12, sm12, rm15, sm15, rm16, sm16, rm17, sm17, rm18, sm18, rm19, sm19, rm20, sm20, rm21, sm21, rm24, sm24, rm25, sm25, rm30, sm30, rm34, sm34, rm35, sm35, rm38, sm38, pk1, pk2, pk3, pk4, pk10, pk11, pk12, pk13, pk14, pk15, pk17, pkr5, pkr6, pm0, pm2, pm3, pm4, pm5, pm6, pm7, pm8, pm9, pm10, pm11, pm13, pz13_0, pz13_1, pm14, pz14_0, pz14_1, pm22, pm23, pm26, pm27, pm28, pm29, pm31, pm32, pm33, pm36, pm37, pm39, pm40, pm41, pl2_0, pl2_1, pl2_2, pl3_0, pl3_1, pl3_2, hse, hse4]
  rw [if_neg hns]
  by_cases c1 : ch (a 1) (f 3) p = -1
  · rw [if_pos c1, if_pos c1]
    refine ⟨_, _, rfl, ?_, fun _ _ => rfl, ?_⟩
    · intro j j1 j2 j3 j4 j5
      rw [u1_ne _ _ j2, u1_ne _ _ j3, u1_ne _ _ j4, u1_ne _ _ j5, u1_ne _ _ j1]
    · refine ⟨?_, u1_eq .., ?_, fun h => absurd (show (1 : Int) = 3 from h) (by decide), fun h => absurd (show (1 : Int) = 2 from h) (by decide)⟩
      · rw [u1_ne _ _ (by omega), u1_ne _ _ (by omega), u1_ne _ _ (by omega), u1_ne _ _ (by omega), u1_eq]
      · rw [u1_ne _ _ (by omega), u1_eq]
        rfl
  have hpn := ch_lt c1
  rw [if_neg c1, if_neg c1]
  simp (disch := first | omega | assumption) only [Option.bind_some, bn2_some, ii_lit, ii_neg, ii_add, ii_sub, ii_mul, ii_le, ii_lt, ii_eq, ii_ite, ii_or, ii_and, ii_bit, ii_rem, ii_div, b0_, b1_, b2_, b3_, true_and, and_true, u1_eq, u1_ne, u2_eq, u2_nk, u2_ni, uP_eq, uP_ne, gk1, gk2, gk3, gk4, gk10, gk11, gk12, gk13, gk14, gk15, gk17, gkr0, gkr7, gkr8, gkr9, gkr16, gkr18, gkr19, gkr5, gkr6, ok0, ok1, ok2, ok3, gl2_0, gl2_1, gl2_2, gl3_0, gl3_1, gl3_2, gm0, gm2, gm3, gm4, gm5, gm6, gm7, gm8, gm9, gm10, gm11, gm13, gm14, gm22, gm23, gm26, gm27, gm28, gm29, gm31, gm32, gm33, gm36, gm37, gm39, gm40, gm41, gm1, gm12, gm15, gm16, gm17, gm18, gm19, gm20, gm21, gm24, gm25, gm30, gm34, gm35, gm38, rk0, sk0, rk9, sk9, rk16, sk16, rk18, sk18, rk19, sk19, rm1, sm1, rm12, sm12, rm15, sm15, rm16, sm16, rm17, sm17, rm18, sm18, rm19, sm19, rm20, sm20, rm21, sm21, rm24, sm24, rm25, sm25, rm30, sm30, rm34, sm34, rm35, sm35, rm38, sm38, pk1, pk2, pk3, pk4, pk10, pk11, pk12, pk13, pk14, pk15, pk17, pkr5, pkr6, pm0, pm2, pm3, pm4, pm5, pm6, pm7, pm8, pm9, pm10, pm11, pm13, pz13_0, pz13_1, pm14, pz14_0, pz14_1, pm22, pm23, pm26, pm27, pm28, pm29, pm31, pm32, pm33, pm36, pm37, pm39, pm40, pm41, pl2_0, pl2_1, pl2_2, pl3_0, pl3_1, pl3_2, hsm, hdg]
  by_cases c2 : 97 ≤ ch (a 1) (f 3) p ∧ ch (a 1) (f 3) p ≤ 122
  · obtain ⟨f2, a2, g1, g2, g3, g4, g5, g6, g7, g8⟩ := m_next67 x F P A f l a b hT (p := p) (by omega) 901 fk_fuel p f1 a (by omega) hs.2 (by omega) (by unfold fk_fuel; omega) hmk1 (fun _ _ => rfl) (by omega) (fun i i1 => by omega)
    rw [hf1] at g1
    rw [if_neg (Decidable.not_not.mpr c2), if_pos c2]
    refine ⟨f2, a2, g1, g2, g3, g4.trans f14, g5, ?_, fun h => ?_, fun h => ⟨?_, fun i hi => ?_⟩⟩
    · rw [g6]
      show _ = (if (if 8 < _ then (0 : Int) else 2) = 1 then (0 : Int) else if (if 8 < _ then (0 : Int) else 2) = 0 then 1 else if (if 8 < _ then (0 : Int) else 2) = 4 then 59 else (if 8 < _ then (0 : Int) else 2))
      (repeat' split) <;> omega
    · have h : (if 8 < rn (a 1) (f 3) 97 122 901 p - p then (0 : Int) else 2) = 3 := h
      split at h <;> omega
    · have h : (if 8 < rn (a 1) (f 3) 97 122 901 p - p then (0 : Int) else 2) = 2 := h
      have hr := rn_rg (T := a 1) (n := f 3) (lo := 97) (hi := 122) (by omega) 901 p hs.2
      rw [g7]
      show _ = ((wdl (a 1) p _).length : Int)
      rw [wdl_len]
      split at h <;> omega
    · have hi : i < (wdl (a 1) p (min 8 (rn (a 1) (f 3) 97 122 901 p - p).toNat)).length := hi
      rw [wdl_len] at hi
      show a2 12 i = (wdl (a 1) p (min 8 (rn (a 1) (f 3) 97 122 901 p - p).toNat)).getD i 0
      rw [wdl_get _ _ hi]
      exact g8 i (by omega) (by omega)
  rw [if_pos c2, if_neg c2]
  by_cases c3 : 48 ≤ ch (a 1) (f 3) p ∧ ch (a 1) (f 3) p ≤ 57
  · obtain ⟨f2, g1, g2, g4, g5, g6, g7⟩ := m_next152 x F P A f l a b hT (p := p) (by omega) 901 fk_fuel p f1 (by omega) hs.2 (by omega) (by unfold fk_fuel; omega) hmk1 (fun i i1 i2 => by omega) (by rw [f17, show min 3 (p - p).toNat = 0 by omega]; rfl)
    rw [hf1, show p - p = 0 by omega] at g1
    rw [if_neg (Decidable.not_not.mpr c3), if_pos c3]
    refine ⟨f2, a, g1, g2, fun _ _ => rfl, g4.trans f14, g5, ?_, fun h => g7, fun h => ?_⟩
    · rw [g6]
      show _ = (if (if 3 < _ then (0 : Int) else 3) = 1 then (0 : Int) else if (if 3 < _ then (0 : Int) else 3) = 0 then 1 else if (if 3 < _ then (0 : Int) else 3) = 4 then 59 else (if 3 < _ then (0 : Int) else 3))
      (repeat' split) <;> omega
    · have h : (if 3 < rn (a 1) (f 3) 48 57 901 p - p then (0 : Int) else 3) = 2 := h
      split at h <;> omega
  · rw [if_pos c3, if_neg c3]
    refine ⟨_, _, rfl, ?_, fun _ _ => rfl, ?_⟩
    · intro j j1 j2 j3 j4 j5
      rw [u1_ne _ _ j3, u1_ne _ _ j2, u1_ne _ _ j4, u1_ne _ _ j5, u1_ne _ _ j1]
    · refine ⟨?_, ?_, ?_, fun h => ?_, fun h => ?_⟩
      · rw [u1_ne _ _ (by omega), u1_ne _ _ (by omega), u1_ne _ _ (by omega), u1_ne _ _ (by omega), u1_eq]
      · rw [u1_ne _ _ (by omega), u1_eq]
      · rw [u1_eq]
        show _ = (if (if ch (a 1) (f 3) p = 59 then (4 : Int) else 0) = 1 then (0 : Int) else if (if ch (a 1) (f 3) p = 59 then (4 : Int) else 0) = 0 then 1 else if (if ch (a 1) (f 3) p = 59 then (4 : Int) else 0) = 4 then 59 else (if ch (a 1) (f 3) p = 59 then (4 : Int) else 0))
        (repeat' split) <;> omega
      · have h : (if ch (a 1) (f 3) p = 59 then (4 : Int) else 0) = 3 := h
        split at h <;> omega
      · have h : (if ch (a 1) (f 3) p = 59 then (4 : Int) else 0) = 2 := h
        split at h <;> omega
