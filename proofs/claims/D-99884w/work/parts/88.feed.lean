/-! PLAIN 33: what is fed -/
set_option maxRecDepth 100000
def s8 (v : Int) : Int := if v < 128 then v else v - 256
theorem and255 (y : Int32) : (y &&& 255).toInt = ((y.toBitVec.toNat % 256 : Nat) : Int) := by
  have h1 : (y &&& 255).toBitVec.toNat = y.toBitVec.toNat % 256 := by
    rw [Int32.toBitVec_and]
    show (y.toBitVec &&& 255#32).toNat = _
    rw [BitVec.toNat_and]
    exact Nat.and_two_pow_sub_one_eq_mod y.toBitVec.toNat 8
  show (y &&& 255).toBitVec.toInt = _
  rw [BitVec.toInt_eq_toNat_of_lt (by omega), h1]
theorem i_b_s8 (y : Int32) : i_b y = ii (s8 (y &&& 255).toInt) := by
  apply Int32.toInt.inj
  have h1 : y.toInt = (y.toBitVec.toNat : Int).bmod (2 ^ 32) := BitVec.toInt_eq_toNat_bmod y.toBitVec
  have hb := and255 y
  have hr : rg (s8 (y &&& 255).toInt) := by
    unfold s8
    split <;> omega
  rw [ii_toInt hr]
  show y.toInt8.toInt32.toInt = _
  rw [Int8.toInt_toInt32, Int32.toInt_toInt8, h1, Int.bmod_bmod_of_dvd (by decide), hb]
  unfold s8 Int.bmod
  have e : ((y.toBitVec.toNat : Int)) % ((256 : Nat) : Int) = ((y.toBitVec.toNat % 256 : Nat) : Int) := rfl
  show (if ((y.toBitVec.toNat : Int)) % ((256 : Nat) : Int) < (((256 : Nat) : Int) + 1) / 2 then ((y.toBitVec.toNat : Int)) % ((256 : Nat) : Int) else ((y.toBitVec.toNat : Int)) % ((256 : Nat) : Int) - ((256 : Nat) : Int)) = _
  rw [e]
  split <;> split <;> omega
theorem shr8 (w : Int32) {s : Int32} (h : s = 24 ∨ s = 16 ∨ s = 8 ∨ s = 0) : i_b (i_ushr w s) = i_b (i_shr w s) := by
  have key : ∀ n : Nat, n ≤ 24 → (w.toBitVec >>> n).setWidth 8 = (w.toBitVec.sshiftRight n).setWidth 8 := by
    intro n hn
    apply BitVec.eq_of_getLsbD_eq
    intro i hi
    rw [BitVec.getLsbD_setWidth, BitVec.getLsbD_setWidth, BitVec.getLsbD_ushiftRight, BitVec.getLsbD_sshiftRight]
    have h1 : n + i < 32 := by omega
    have h2 : decide (32 ≤ i) = false := by
      rw [decide_eq_false_iff_not]
      omega
    rw [h2, if_pos h1]
    simp
  have g : ∀ y z : Int32, y.toBitVec.setWidth 8 = z.toBitVec.setWidth 8 → i_b y = i_b z := by
    intro y z hyz
    show y.toInt8.toInt32 = z.toInt8.toInt32
    have e : ∀ y : Int32, y.toInt8.toBitVec = y.toBitVec.setWidth 8 := fun y => BitVec.signExtend_eq_setWidth_of_le y.toBitVec (by decide)
    have : y.toInt8 = z.toInt8 := Int8.toBitVec_inj.mp (by rw [e, e, hyz])
    rw [this]
  rcases h with rfl | rfl | rfl | rfl
  · exact g _ _ (key 24 (by omega))
  · exact g _ _ (key 16 (by omega))
  · exact g _ _ (key 8 (by omega))
  · exact g _ _ (key 0 (by omega))
def fw (a b c d e k : Int32) : Int32 := if 4 ≤ k then (if 8 ≤ k then (if 12 ≤ k then (if 16 ≤ k then e else d) else c) else b) else a
def fs (k : Int32) : Int32 := 24 - (8 * (i_rem k 4))
theorem fs_4 : ∀ k : Fin 20, fs (ii (k.val : Int)) = 24 ∨ fs (ii (k.val : Int)) = 16 ∨ fs (ii (k.val : Int)) = 8 ∨ fs (ii (k.val : Int)) = 0 := by decide +kernel
def fb (a b c d e : Int32) (k : Int) : Int := (i_shr (fw a b c d e (ii k)) (fs (ii k)) &&& 255).toInt
theorem fb_rg (a b c d e : Int32) (k : Int) : 0 ≤ fb a b c d e k ∧ fb a b c d e k ≤ 255 := by
  unfold fb
  rw [and255]
  omega
theorem fb_b (a b c d e : Int32) {k : Int} (h0 : 0 ≤ k) (h1 : k < 20) : i_b (i_ushr (fw a b c d e (ii k)) (fs (ii k))) = ii (s8 (fb a b c d e k)) := by
  obtain ⟨j, rfl⟩ : ∃ j : Nat, k = j := ⟨k.toNat, by omega⟩
  rw [shr8 _ (fs_4 ⟨j, by omega⟩), i_b_s8]
  rfl
theorem m_feed (x : Nat) (F : Nat → Int) (P : Nat → Option Nat) (A : Nat → Int → Int) (f l : Nat → Int) (a : Nat → Int → Int) (b : fk_M) (w1 w2 w3 w4 w5 : Int32) (h2 : 0 ≤ f 2) (h3 : f 2 ≤ 900) : (880 < f 2 → f_X2_feed (some (x + 8)) w1 w2 w3 w4 w5 (hp x F P A f l a b) = some (ii (-1), hp x F P A (u1 f 0 0) l a b)) ∧ (f 2 ≤ 880 → ∃ a', f_X2_feed (some (x + 8)) w1 w2 w3 w4 w5 (hp x F P A f l a b) = some (ii (f 2 + 20), hp x F P A (u1 (u1 f 0 0) 2 (f 2 + 20)) l a' b) ∧ (∀ j, j ≠ 1 → a' j = a j) ∧ (∀ t, t < f 2 → a' 1 t = a 1 t) ∧ ∀ k, 0 ≤ k → k < 20 → a' 1 (f 2 + k) = fb w1 w2 w3 w4 w5 k) := by
  unfold f_X2_feed
  have e0 : u1 f 0 0 2 = f 2 := u1_ne _ _ (by omega)
  simp (disch := first | omega | assumption) only [Option.bind_some, bn2_some, ii_lit, ii_neg, ii_add, ii_sub, ii_mul, ii_le, ii_lt, ii_eq, ii_ite, ii_or, ii_and, ii_bit, ii_rem, ii_div, b0_, b1_, b2_, b3_, true_and, and_true, u1_eq, u1_ne, u2_eq, u2_nk, u2_ni, uP_eq, uP_ne, gk1, gk2, gk3, gk4, gk10, gk11, gk12, gk13, gk14, gk15, gk17, gkr0, gkr7, gkr8, gkr9, gkr16, gkr18, gkr19, gkr5, gkr6, ok0, ok1, ok2, ok3, gl2_0, gl2_1, gl2_2, gl3_0, gl3_1, gl3_2, gm0, gm2, gm3, gm4, gm5, gm6, gm7, gm8, gm9, gm10, gm11, gm13, gm14, gm22, gm23, gm26, gm27, gm28, gm29, gm31, gm32, gm33, gm36, gm37, gm39, gm40, gm41, gm1, gm12, gm15, gm16, gm17, gm18, gm19, gm20, gm21, gm24, gm25, gm30, gm34, gm35, gm38, rk0, sk0, rk9, sk9, rk16, sk16, rk18, sk18, rk19, sk19, rm1, sm1, rm12, sm12, rm15, sm15, rm16, sm16, rm17, sm17, rm18, sm18, rm19, sm19, rm20, sm20, rm21, sm21, rm24, sm24, rm25, sm25, rm30, sm30, rm34, sm34, rm35, sm35, rm38, sm38, pk1, pk2, pk3, pk4, pk10, pk11, pk12, pk13, pk14, pk15, pk17, pkr5, pkr6, pm0, pm2, pm3, pm4, pm5, pm6, pm7, pm8, pm9, pm10, pm11, pm13, pz13_0, pz13_1, pm14, pz14_0, pz14_1, pm22, pm23, pm26, pm27, pm28, pm29, pm31, pm32, pm33, pm36, pm37, pm39, pm40, pm41, pl2_0, pl2_1, pl2_2, pl3_0, pl3_1, pl3_2, e0]
  refine ⟨fun h => by rw [if_neg (by omega)], fun h => ?_⟩
  rw [if_pos (by omega)]
  have hL := loop_ex (fun N (_ : Unit) k (y : (Nat → Int) × (Nat → Int → Int)) => f_X2_feed_L23 (some (x + 8)) w1 w2 w3 w4 w5 N (ii k) (hp x F P A y.1 l y.2 b)) (fun u _ => u) (fun _ y => some (ii (f 2 + 20), hp x F P A y.1 l y.2 b)) (fun _ k y => y.1 = u1 (u1 f 0 0) 2 (f 2 + k) ∧ (∀ j, j ≠ 1 → y.2 j = a j) ∧ (∀ t, t < f 2 → y.2 1 t = a 1 t) ∧ ∀ i, 0 ≤ i → i < k → y.2 1 (f 2 + i) = fb w1 w2 w3 w4 w5 i) (lo := 0) (hi := 20) ?_ ?_ 20 fk_fuel () 0 (u1 f 0 0, a) (by omega) (by omega) (by unfold fk_fuel; omega) ⟨(u1_self (by show u1 f 0 0 2 = f 2 + 0; rw [e0]; omega)).symm, fun _ _ => rfl, fun _ _ => rfl, fun i i0 i1 => by omega⟩
  · obtain ⟨⟨f', a'⟩, g1, g2, g3, g4, g5⟩ := hL
    dsimp only at g1 g2 g3 g4 g5
    rw [g2] at g1
    exact ⟨a', g1, g3, g4, g5⟩
  · rintro N - ⟨f', a'⟩ ⟨g2, g3, g4, g5⟩
    dsimp only at g2 g3 g4 g5 ⊢
    subst g2
    rw [f_X2_feed_L23]
    simp (disch := first | omega | assumption) only [Option.bind_some, bn2_some, ii_lit, ii_neg, ii_add, ii_sub, ii_mul, ii_le, ii_lt, ii_eq, ii_ite, ii_or, ii_and, ii_bit, ii_rem, ii_div, b0_, b1_, b2_, b3_, true_and, and_true, u1_eq, u1_ne, u2_eq, u2_nk, u2_ni, uP_eq, uP_ne, gk1, gk2, gk3, gk4, gk10, gk11, gk12, gk13, gk14, gk15, gk17, gkr0, gkr7, gkr8, gkr9, gkr16, gkr18, gkr19, gkr5, gkr6, ok0, ok1, ok2, ok3, gl2_0, gl2_1, gl2_2, gl3_0, gl3_1, gl3_2, gm0, gm2, gm3, gm4, gm5, gm6, gm7, gm8, gm9, gm10, gm11, gm13, gm14, gm22, gm23, gm26, gm27, gm28, gm29, gm31, gm32, gm33, gm36, gm37, gm39, gm40, gm41, gm1, gm12, gm15, gm16, gm17, gm18, gm19, gm20, gm21, gm24, gm25, gm30, gm34, gm35, gm38, rk0, sk0, rk9, sk9, rk16, sk16, rk18, sk18, rk19, sk19, rm1, sm1, rm12, sm12, rm15, sm15, rm16, sm16, rm17, sm17, rm18, sm18, rm19, sm19, rm20, sm20, rm21, sm21, rm24, sm24, rm25, sm25, rm30, sm30, rm34, sm34, rm35, sm35, rm38, sm38, pk1, pk2, pk3, pk4, pk10, pk11, pk12, pk13, pk14, pk15, pk17, pkr5, pkr6, pm0, pm2, pm3, pm4, pm5, pm6, pm7, pm8, pm9, pm10, pm11, pm13, pz13_0, pz13_1, pm14, pz14_0, pz14_1, pm22, pm23, pm26, pm27, pm28, pm29, pm31, pm32, pm33, pm36, pm37, pm39, pm40, pm41, pl2_0, pl2_1, pl2_2, pl3_0, pl3_1, pl3_2]
    rw [if_pos (by omega)]
  · rintro N - k ⟨f', a'⟩ k1 k2 ⟨g2, g3, g4, g5⟩
    dsimp only at g2 g3 g4 g5
    subst g2
    have e1 : u1 (u1 f 0 0) 2 (f 2 + k) 2 = f 2 + k := u1_eq ..
    have hv : i_shr (if (4 : Int32) ≤ ii k then (if (8 : Int32) ≤ ii k then (if (12 : Int32) ≤ ii k then (if (16 : Int32) ≤ ii k then w5 else w4) else w3) else w2) else w1) (24 - (8 * (i_rem (ii k) 4))) &&& 255 = ii (fb w1 w2 w3 w4 w5 k) := (ii_tI _).symm
    refine ⟨(u1 (u1 f 0 0) 2 (f 2 + (k + 1)), u2 a' 1 (f 2 + k) (fb w1 w2 w3 w4 w5 k)), ⟨rfl, fun j hj => (u2_nk _ _ _ hj).trans (g3 j hj), fun t ht => (u2_ni _ _ _ (by omega)).trans (g4 t ht), fun i i0 i1 => ?_⟩, ?_⟩
    · dsimp only
      by_cases hi : i = k
      · rw [hi, u2_eq]
      · rw [u2_ni _ _ _ (by omega)]
        exact g5 i i0 (by omega)
    · dsimp only
      rw [f_X2_feed_L23, hv, if_neg (by rw [show (20 : Int32) = ii 20 from rfl, ii_le (by omega) (by omega)]; omega)]
      simp (disch := first | omega | assumption) only [Option.bind_some, bn2_some, ii_lit, ii_neg, ii_add, ii_sub, ii_mul, ii_le, ii_lt, ii_eq, ii_ite, ii_or, ii_and, ii_bit, ii_rem, ii_div, b0_, b1_, b2_, b3_, true_and, and_true, u1_eq, u1_ne, u2_eq, u2_nk, u2_ni, uP_eq, uP_ne, gk1, gk2, gk3, gk4, gk10, gk11, gk12, gk13, gk14, gk15, gk17, gkr0, gkr7, gkr8, gkr9, gkr16, gkr18, gkr19, gkr5, gkr6, ok0, ok1, ok2, ok3, gl2_0, gl2_1, gl2_2, gl3_0, gl3_1, gl3_2, gm0, gm2, gm3, gm4, gm5, gm6, gm7, gm8, gm9, gm10, gm11, gm13, gm14, gm22, gm23, gm26, gm27, gm28, gm29, gm31, gm32, gm33, gm36, gm37, gm39, gm40, gm41, gm1, gm12, gm15, gm16, gm17, gm18, gm19, gm20, gm21, gm24, gm25, gm30, gm34, gm35, gm38, rk0, sk0, rk9, sk9, rk16, sk16, rk18, sk18, rk19, sk19, rm1, sm1, rm12, sm12, rm15, sm15, rm16, sm16, rm17, sm17, rm18, sm18, rm19, sm19, rm20, sm20, rm21, sm21, rm24, sm24, rm25, sm25, rm30, sm30, rm34, sm34, rm35, sm35, rm38, sm38, pk1, pk2, pk3, pk4, pk10, pk11, pk12, pk13, pk14, pk15, pk17, pkr5, pkr6, pm0, pm2, pm3, pm4, pm5, pm6, pm7, pm8, pm9, pm10, pm11, pm13, pz13_0, pz13_1, pm14, pz14_0, pz14_1, pm22, pm23, pm26, pm27, pm28, pm29, pm31, pm32, pm33, pm36, pm37, pm39, pm40, pm41, pl2_0, pl2_1, pl2_2, pl3_0, pl3_1, pl3_2, e1]
      rw [u1_u1, Int.add_assoc]
theorem k_feed (x : Nat) (F : Nat → Int) (P : Nat → Option Nat) (A : Nat → Int → Int) (f l : Nat → Int) (a : Nat → Int → Int) (b : fk_M) (w1 w2 w3 w4 w5 : Int32) (h2 : 0 ≤ F 1) (h3 : F 1 ≤ 900) : (880 < F 1 → f_X1_feed (some x) w1 w2 w3 w4 w5 (hp x F P A f l a b) = some (ii (-1), (hp x F P A f l a b))) ∧ (F 1 ≤ 880 → ∃ A', f_X1_feed (some x) w1 w2 w3 w4 w5 (hp x F P A f l a b) = some (ii (F 1 + 20), hp x (u1 F 1 (F 1 + 20)) P A' f l a b) ∧ (∀ t, t < F 1 → A' 0 t = A 0 t) ∧ ∀ k, 0 ≤ k → k < 20 → A' 0 (F 1 + k) = s8 (fb w1 w2 w3 w4 w5 k)) := by
  unfold f_X1_feed
  simp (disch := first | omega | assumption) only [Option.bind_some, bn2_some, ii_lit, ii_neg, ii_add, ii_sub, ii_mul, ii_le, ii_lt, ii_eq, ii_ite, ii_or, ii_and, ii_bit, ii_rem, ii_div, b0_, b1_, b2_, b3_, true_and, and_true, u1_eq, u1_ne, u2_eq, u2_nk, u2_ni, uP_eq, uP_ne, gk1, gk2, gk3, gk4, gk10, gk11, gk12, gk13, gk14, gk15, gk17, gkr0, gkr7, gkr8, gkr9, gkr16, gkr18, gkr19, gkr5, gkr6, ok0, ok1, ok2, ok3, gl2_0, gl2_1, gl2_2, gl3_0, gl3_1, gl3_2, gm0, gm2, gm3, gm4, gm5, gm6, gm7, gm8, gm9, gm10, gm11, gm13, gm14, gm22, gm23, gm26, gm27, gm28, gm29, gm31, gm32, gm33, gm36, gm37, gm39, gm40, gm41, gm1, gm12, gm15, gm16, gm17, gm18, gm19, gm20, gm21, gm24, gm25, gm30, gm34, gm35, gm38, rk0, sk0, rk9, sk9, rk16, sk16, rk18, sk18, rk19, sk19, rm1, sm1, rm12, sm12, rm15, sm15, rm16, sm16, rm17, sm17, rm18, sm18, rm19, sm19, rm20, sm20, rm21, sm21, rm24, sm24, rm25, sm25, rm30, sm30, rm34, sm34, rm35, sm35, rm38, sm38, pk1, pk2, pk3, pk4, pk10, pk11, pk12, pk13, pk14, pk15, pk17, pkr5, pkr6, pm0, pm2, pm3, pm4, pm5, pm6, pm7, pm8, pm9, pm10, pm11, pm13, pz13_0, pz13_1, pm14, pz14_0, pz14_1, pm22, pm23, pm26, pm27, pm28, pm29, pm31, pm32, pm33, pm36, pm37, pm39, pm40, pm41, pl2_0, pl2_1, pl2_2, pl3_0, pl3_1, pl3_2]
  refine ⟨fun h => by rw [if_neg (by omega)], fun h => ?_⟩
  rw [if_pos (by omega)]
  have hL := loop_ex (fun N (_ : Unit) k (y : Nat → Int → Int) => f_X1_feed_L18 (some x) w1 w2 w3 w4 w5 N (ii k) (hp x F P y f l a b)) (fun u _ => u) (fun _ y => some (ii (F 1 + 20), hp x (u1 F 1 (F 1 + 20)) P y f l a b)) (fun _ k y => (∀ t, t < F 1 → y 0 t = A 0 t) ∧ ∀ i, 0 ≤ i → i < k → y 0 (F 1 + i) = s8 (fb w1 w2 w3 w4 w5 i)) (lo := 0) (hi := 20) ?_ ?_ 20 fk_fuel () 0 A (by omega) (by omega) (by unfold fk_fuel; omega) ⟨fun _ _ => rfl, fun i i0 i1 => by omega⟩
  · obtain ⟨A', g1, g4, g5⟩ := hL
    exact ⟨A', g1, g4, g5⟩
  · rintro N - y ⟨g4, g5⟩
    try dsimp only
    rw [f_X1_feed_L18]
    simp (disch := first | omega | assumption) only [Option.bind_some, bn2_some, ii_lit, ii_neg, ii_add, ii_sub, ii_mul, ii_le, ii_lt, ii_eq, ii_ite, ii_or, ii_and, ii_bit, ii_rem, ii_div, b0_, b1_, b2_, b3_, true_and, and_true, u1_eq, u1_ne, u2_eq, u2_nk, u2_ni, uP_eq, uP_ne, gk1, gk2, gk3, gk4, gk10, gk11, gk12, gk13, gk14, gk15, gk17, gkr0, gkr7, gkr8, gkr9, gkr16, gkr18, gkr19, gkr5, gkr6, ok0, ok1, ok2, ok3, gl2_0, gl2_1, gl2_2, gl3_0, gl3_1, gl3_2, gm0, gm2, gm3, gm4, gm5, gm6, gm7, gm8, gm9, gm10, gm11, gm13, gm14, gm22, gm23, gm26, gm27, gm28, gm29, gm31, gm32, gm33, gm36, gm37, gm39, gm40, gm41, gm1, gm12, gm15, gm16, gm17, gm18, gm19, gm20, gm21, gm24, gm25, gm30, gm34, gm35, gm38, rk0, sk0, rk9, sk9, rk16, sk16, rk18, sk18, rk19, sk19, rm1, sm1, rm12, sm12, rm15, sm15, rm16, sm16, rm17, sm17, rm18, sm18, rm19, sm19, rm20, sm20, rm21, sm21, rm24, sm24, rm25, sm25, rm30, sm30, rm34, sm34, rm35, sm35, rm38, sm38, pk1, pk2, pk3, pk4, pk10, pk11, pk12, pk13, pk14, pk15, pk17, pkr5, pkr6, pm0, pm2, pm3, pm4, pm5, pm6, pm7, pm8, pm9, pm10, pm11, pm13, pz13_0, pz13_1, pm14, pz14_0, pz14_1, pm22, pm23, pm26, pm27, pm28, pm29, pm31, pm32, pm33, pm36, pm37, pm39, pm40, pm41, pl2_0, pl2_1, pl2_2, pl3_0, pl3_1, pl3_2]
    rw [if_pos (by omega)]
  · rintro N - k y k1 k2 ⟨g4, g5⟩
    have hv : i_b (i_ushr (if (4 : Int32) ≤ ii k then (if (8 : Int32) ≤ ii k then (if (12 : Int32) ≤ ii k then (if (16 : Int32) ≤ ii k then w5 else w4) else w3) else w2) else w1) (24 - (8 * (i_rem (ii k) 4)))) = ii (s8 (fb w1 w2 w3 w4 w5 k)) := fb_b w1 w2 w3 w4 w5 k1 k2
    have hr := fb_rg w1 w2 w3 w4 w5 k
    have hs : -128 ≤ s8 (fb w1 w2 w3 w4 w5 k) ∧ s8 (fb w1 w2 w3 w4 w5 k) ≤ 127 := by
      unfold s8
      split <;> omega
    refine ⟨u2 y 0 (F 1 + k) (s8 (fb w1 w2 w3 w4 w5 k)), ⟨fun t ht => (u2_ni _ _ _ (by omega)).trans (g4 t ht), fun i i0 i1 => ?_⟩, ?_⟩
    · by_cases hi : i = k
      · rw [hi, u2_eq]
      · rw [u2_ni _ _ _ (by omega)]
        exact g5 i i0 (by omega)
    · try dsimp only
      rw [f_X1_feed_L18, hv, if_neg (by rw [show (20 : Int32) = ii 20 from rfl, ii_le (by omega) (by omega)]; omega)]
      simp (disch := first | omega | assumption) only [Option.bind_some, bn2_some, ii_lit, ii_neg, ii_add, ii_sub, ii_mul, ii_le, ii_lt, ii_eq, ii_ite, ii_or, ii_and, ii_bit, ii_rem, ii_div, b0_, b1_, b2_, b3_, true_and, and_true, u1_eq, u1_ne, u2_eq, u2_nk, u2_ni, uP_eq, uP_ne, gk1, gk2, gk3, gk4, gk10, gk11, gk12, gk13, gk14, gk15, gk17, gkr0, gkr7, gkr8, gkr9, gkr16, gkr18, gkr19, gkr5, gkr6, ok0, ok1, ok2, ok3, gl2_0, gl2_1, gl2_2, gl3_0, gl3_1, gl3_2, gm0, gm2, gm3, gm4, gm5, gm6, gm7, gm8, gm9, gm10, gm11, gm13, gm14, gm22, gm23, gm26, gm27, gm28, gm29, gm31, gm32, gm33, gm36, gm37, gm39, gm40, gm41, gm1, gm12, gm15, gm16, gm17, gm18, gm19, gm20, gm21, gm24, gm25, gm30, gm34, gm35, gm38, rk0, sk0, rk9, sk9, rk16, sk16, rk18, sk18, rk19, sk19, rm1, sm1, rm12, sm12, rm15, sm15, rm16, sm16, rm17, sm17, rm18, sm18, rm19, sm19, rm20, sm20, rm21, sm21, rm24, sm24, rm25, sm25, rm30, sm30, rm34, sm34, rm35, sm35, rm38, sm38, pk1, pk2, pk3, pk4, pk10, pk11, pk12, pk13, pk14, pk15, pk17, pkr5, pkr6, pm0, pm2, pm3, pm4, pm5, pm6, pm7, pm8, pm9, pm10, pm11, pm13, pz13_0, pz13_1, pm14, pz14_0, pz14_1, pm22, pm23, pm26, pm27, pm28, pm29, pm31, pm32, pm33, pm36, pm37, pm39, pm40, pm41, pl2_0, pl2_1, pl2_2, pl3_0, pl3_1, pl3_2]
/-! sizes -/
def s_size (h : Int) (ρ σ : Int → Int) (tp u k w : Int) : Int := if w = 10 then tp else if 0 ≤ w ∧ w ≤ 9 then (if h = 1 then (if w ≤ 6 then ρ w else if w = 7 then σ 35 else if w = 8 then u else k) else 0) else -1
theorem m_size (x : Nat) (F : Nat → Int) (P : Nat → Option Nat) (A : Nat → Int → Int) (f l : Nat → Int) (a : Nat → Int → Int) (b : fk_M) {w : Int} (hw0 : rg w) (hM : Hm f a) : f_X2_size (some (x + 8)) (ii w) (hp x F P A f l a b) = some (ii (s_size (f 14) (a 15) (a 19) (f 2) (f 22) (f 23) w), hp x F P A (u1 f 0 0) l a b) := by
  unfold f_X2_size s_size
  have e2 : u1 f 0 0 2 = f 2 := u1_ne _ _ (by omega)
  have e14 : u1 f 0 0 14 = f 14 := u1_ne _ _ (by omega)
  have e22 : u1 f 0 0 22 = f 22 := u1_ne _ _ (by omega)
  have e23 : u1 f 0 0 23 = f 23 := u1_ne _ _ (by omega)
  have i9 : f_X2_in (ii w) (ii 0) (ii 9) (hp x F P A (u1 f 0 0) l a b) = some (ii (if 0 ≤ w ∧ w ≤ 9 then 1 else 0)) := m_in _ hw0 (by omega) (by omega)
  have i6 : f_X2_in (ii w) (ii 0) (ii 6) (hp x F P A (u1 f 0 0) l a b) = some (ii (if 0 ≤ w ∧ w ≤ 6 then 1 else 0)) := m_in _ hw0 (by omega) (by omega)
  simp (disch := first | omega | assumption) only [Option.bind_some, bn2_some, ii_lit, ii_neg, ii_add, ii_sub, ii_mul, ii_le, ii_lt, ii_eq, ii_ite, ii_or, ii_and, ii_bit, ii_rem, ii_div, b0_, b1_, b2_, b3_, true_and, and_true, u1_eq, u1_ne, u2_eq, u2_nk, u2_ni, uP_eq, uP_ne, gk1, gk2, gk3, gk4, gk10, gk11, gk12, gk13, gk14, gk15, gk17, gkr0, gkr7, gkr8, gkr9, gkr16, gkr18, gkr19, gkr5, gkr6, ok0, ok1, ok2, ok3, gl2_0, gl2_1, gl2_2, gl3_0, gl3_1, gl3_2, gm0, gm2, gm3, gm4, gm5, gm6, gm7, gm8, gm9, gm10, gm11, gm13, gm14, gm22, gm23, gm26, gm27, gm28, gm29, gm31, gm32, gm33, gm36, gm37, gm39, gm40, gm41, gm1, gm12, gm15, gm16, gm17, gm18, gm19, gm20, gm21, gm24, gm25, gm30, gm34, gm35, gm38, rk0, sk0, rk9, sk9, rk16, sk16, rk18, sk18, rk19, sk19, rm1, sm1, rm12, sm12, rm15, sm15, rm16, sm16, rm17, sm17, rm18, sm18, rm19, sm19, rm20, sm20, rm21, sm21, rm24, sm24, rm25, sm25, rm30, sm30, rm34, sm34, rm35, sm35, rm38, sm38, pk1, pk2, pk3, pk4, pk10, pk11, pk12, pk13, pk14, pk15, pk17, pkr5, pkr6, pm0, pm2, pm3, pm4, pm5, pm6, pm7, pm8, pm9, pm10, pm11, pm13, pz13_0, pz13_1, pm14, pz14_0, pz14_1, pm22, pm23, pm26, pm27, pm28, pm29, pm31, pm32, pm33, pm36, pm37, pm39, pm40, pm41, pl2_0, pl2_1, pl2_2, pl3_0, pl3_1, pl3_2, e2, e14, e22, e23, i9, i6]
  by_cases h10 : w = 10
  · rw [if_pos h10, if_pos h10]
  rw [if_neg h10, if_neg h10]
  obtain h | ⟨h, hR⟩ := hM
  · rw [h, if_pos rfl]
    by_cases h9 : 0 ≤ w ∧ w ≤ 9
    · rw [if_pos h9, if_neg (show ¬ ¬ (0 ≤ w ∧ w ≤ 9) from fun h => h h9), if_neg (show ¬ (0 : Int) = 1 by decide)]
    · rw [if_neg h9, if_pos h9]
  · rw [h, if_neg (by decide), if_pos rfl]
    by_cases h6 : 0 ≤ w ∧ w ≤ 6
    · rw [if_neg (fun h => h h6), if_pos (show 0 ≤ w ∧ w ≤ 9 by omega), if_pos (show w ≤ 6 by omega)]
    · rw [if_pos h6]
      by_cases h9 : 0 ≤ w ∧ w ≤ 9
      · rw [if_pos h9, if_neg (show ¬ w ≤ 6 by omega)]
        by_cases h7 : w = 7
        · rw [if_pos h7, if_pos h7]
        rw [if_neg h7, if_neg h7]
        by_cases h8 : w = 8
        · rw [if_pos h8, if_pos h8]
        rw [if_neg h8, if_neg h8, if_pos (show w = 9 by omega)]
      · rw [if_neg h9, if_neg (show ¬ w = 7 by omega), if_neg (show ¬ w = 8 by omega), if_neg (show ¬ w = 9 by omega)]
theorem k_size (x : Nat) (F : Nat → Int) (P : Nat → Option Nat) (A : Nat → Int → Int) (f l : Nat → Int) (a : Nat → Int → Int) (b : fk_M) {n : Nat} {g : Nat → Nat} {h : Int} {ρ τ σ U : Int → Int} {u : Nat} {K : Int → Int} {k : Nat} (hK : KI x n g F P b h ρ τ σ U u K k) {w : Int} (hw0 : rg w) : f_X1_size (some x) (ii w) (hp x F P A f l a b) = some (ii (s_size h ρ σ (F 1) u k w)) := by
  have h101 := hK.1.2.2.2.2.2.1
  have h111 := hK.1.2.2.2.2.2.2
  have hz2 : f_J2_size (some (x + 2)) (hp x F P A f l a b) = some (ii (u : Int)) := by
    unfold f_J2_size
    rw [gl2_2, Option.bind_some, h101]
  have hz3 : f_J2_size (some (x + 3)) (hp x F P A f l a b) = some (ii (k : Int)) := by
    unfold f_J2_size
    rw [gl3_2, Option.bind_some, h111]
  unfold f_X1_size s_size
  by_cases h10 : w = 10
  · subst h10
    rw [if_pos (show ii 10 = 10 from rfl), if_pos rfl, gk1, Option.bind_some]
  rw [if_neg (show ¬ ii w = 10 by rw [show (10 : Int32) = ii 10 from rfl, ii_eq hw0 (by omega)]; exact h10), if_neg h10, show f_X1_in (ii w) 0 9 (hp x F P A f l a b) = _ from k_in _ (lo := 0) (hi := 9) hw0 (by omega) (by omega), Option.bind_some]
  by_cases h9 : 0 ≤ w ∧ w ≤ 9
  rotate_left
  · rw [if_neg h9, if_neg h9, if_pos (show ii 0 = 0 from rfl)]
    rfl
  rw [if_pos h9, if_pos h9, if_neg (show ¬ ii 1 = 0 by decide), gkr5, Option.bind_some]
  by_cases h0 : h = 1
  rotate_left
  · rw [if_neg h0, k_none hK.kq h0, if_pos rfl]
    rfl
  subst h0
  obtain ⟨q, lw, hk, pa, sg, un, l5, l6, hR, p5, p6, hS, hs, hsn, hA⟩ := hK.api
  obtain ⟨KP5, KP6, K1, K2, K3, K4, K5, K6, K7, K8, K9, K10, K11, K12, K13, K14, K15, K16, K17, K18, K19, K20, K21, K22, K23, K24, K25, K26, K27, K28, K29, K30, K31⟩ := hA
  rw [if_pos rfl, KP5, if_neg (show ¬ some pa = none from fun h => by cases h)]
  simp (disch := first | omega | assumption) only [Option.bind_some, bn2_some, ii_lit, ii_neg, ii_add, ii_sub, ii_mul, ii_le, ii_lt, ii_eq, ii_ite, ii_or, ii_and, ii_bit, ii_rem, ii_div, b0_, b1_, b2_, b3_, true_and, and_true, u1_eq, u1_ne, u2_eq, u2_nk, u2_ni, uP_eq, uP_ne, gk1, gk2, gk3, gk4, gk10, gk11, gk12, gk13, gk14, gk15, gk17, gkr0, gkr7, gkr8, gkr9, gkr16, gkr18, gkr19, gkr5, gkr6, ok0, ok1, ok2, ok3, gl2_0, gl2_1, gl2_2, gl3_0, gl3_1, gl3_2, gm0, gm2, gm3, gm4, gm5, gm6, gm7, gm8, gm9, gm10, gm11, gm13, gm14, gm22, gm23, gm26, gm27, gm28, gm29, gm31, gm32, gm33, gm36, gm37, gm39, gm40, gm41, gm1, gm12, gm15, gm16, gm17, gm18, gm19, gm20, gm21, gm24, gm25, gm30, gm34, gm35, gm38, rk0, sk0, rk9, sk9, rk16, sk16, rk18, sk18, rk19, sk19, rm1, sm1, rm12, sm12, rm15, sm15, rm16, sm16, rm17, sm17, rm18, sm18, rm19, sm19, rm20, sm20, rm21, sm21, rm24, sm24, rm25, sm25, rm30, sm30, rm34, sm34, rm35, sm35, rm38, sm38, pk1, pk2, pk3, pk4, pk10, pk11, pk12, pk13, pk14, pk15, pk17, pkr5, pkr6, pm0, pm2, pm3, pm4, pm5, pm6, pm7, pm8, pm9, pm10, pm11, pm13, pz13_0, pz13_1, pm14, pz14_0, pz14_1, pm22, pm23, pm26, pm27, pm28, pm29, pm31, pm32, pm33, pm36, pm37, pm39, pm40, pm41, pl2_0, pl2_1, pl2_2, pl3_0, pl3_1, pl3_2, KP5, KP6, K1, K10, K11, K12, K13, K14, K15, K17, K18, K19, K20, K27, hz2, hz3]
  have hw9 : w = 0 ∨ w = 1 ∨ w = 2 ∨ w = 3 ∨ w = 4 ∨ w = 5 ∨ w = 6 ∨ w = 7 ∨ w = 8 ∨ w = 9 := by omega
  rcases hw9 with rfl | rfl | rfl | rfl | rfl | rfl | rfl | rfl | rfl | rfl <;> rfl
