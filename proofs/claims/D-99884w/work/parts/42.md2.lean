set_option maxRecDepth 100000
/-! FigureKneeModel settles (I)I -/
theorem n_X2_settles : fk_N yX2_settles 1 := ⟨by decide +kernel, by decide +kernel, by decide +kernel, by decide +kernel⟩
def f_X2_settles (a0 : Option Nat) (a1 : Int32) (m0 : fk_M) : Option (Int32 × fk_M) :=
  (isO m0 a0 1).bind fun u1 => (f_X2_good a0 m0).bind fun m2 => (isO m2 a0 1).bind fun u3 => (f_X2_isPair a0 a1 m2).bind fun z4 => if z4 = 0 then ((isO m2 a0 1).bind fun u5 => bn2 (f_X2_no a0 1 m2) fun z6 m7 => some (z6, m7)) else ((isO m2 a0 1).bind fun u8 => (f_X2_goRound a0 a1 m2).bind fun m9 => (gI m9 a0 1 28).bind fun z10 => some (z10, m9))
set_option maxHeartbeats 4000000 in
theorem c_X2_settles {l : Launch} {G : fk_G} {b0 : Nat} {n : Nat} {a0 : Option Nat} {a1 : Int32} {m0 : fk_M} {r : Int32} {mF : fk_M} (hf : f_X2_settles a0 a1 m0 = some (r, mF)) : fk_Ct l G b0 yX2_settles cX2_settles 2 (some .int) 5 158 [tR a0, tI a1] n m0 (some (tI r)) n mF 0 0 := by
  refine fk_enter n_X2_settles.1 rfl ?_
  intro E X0 Y
  have X : fk_X E l G b0 "FigureKneeModel" "settles" cX2_settles 2 5 158 0 0 := X0
  show fk_W E 2 n m0 0 0 0 [(0, tR a0), (1, tI a1)] []
  unfold f_X2_settles at hf
  refine fk_aload_n X 0 dX2_settles_0 rfl ?_
  obtain ⟨u1, hq, hf⟩ := bI hf
  obtain ⟨m2, hv, hf⟩ := bI hf
  refine fk_callV0V (ci := 1) (rest := []) X hq rfl (c_X2_good hv) n_X2_good q1665 q1667 qs63 q126 q1668 rfl dX2_settles_1 rfl rfl rfl rfl rfl (Nat.le_refl _) (Nat.le_refl _) ?_
  refine fk_aload_n X 0 dX2_settles_4 rfl ?_
  refine fk_iload_n X 1 dX2_settles_5 rfl ?_
  obtain ⟨u3, hq, hf⟩ := bI hf
  obtain ⟨z4, hv, hf⟩ := bI hf
  refine fk_callV0I (ci := 1) (rest := []) X hq rfl (c_X2_isPair hv) n_X2_isPair q1820 q1822 qs87 q126 q1823 rfl dX2_settles_6 rfl rfl rfl rfl rfl (Nat.le_refl _) (Nat.le_refl _) ?_
  refine fk_if_ne' X 18 dX2_settles_9 rfl hf (fun hf => ?_) (fun hf => ?_)
  · refine fk_aload_n X 0 dX2_settles_18 rfl ?_
    refine fk_iload_n X 1 dX2_settles_19 rfl ?_
    obtain ⟨u8, hq, hf⟩ := bI hf
    obtain ⟨m9, hv, hf⟩ := bI hf
    refine fk_callV0V (ci := 1) (rest := []) X hq rfl (c_X2_goRound hv) n_X2_goRound q1876 q1878 qs96 q126 q1879 rfl dX2_settles_20 rfl rfl rfl rfl rfl (Nat.le_refl _) (Nat.le_refl _) ?_
    refine fk_aload_n X 0 dX2_settles_23 rfl ?_
    refine fk_getI' X fd_1_28 q1554 dX2_settles_24 hf (fun z10 hf => ?_)
    cases hf
    exact fk_ireturn X Y dX2_settles_27 rfl
  · refine fk_aload_n X 0 dX2_settles_12 rfl ?_
    refine fk_iconst (v := 1) X dX2_settles_13 rfl ?_
    obtain ⟨u5, hq, hf⟩ := bI hf
    obtain ⟨z6, m7, hv, hf⟩ := bn2_eq hf
    refine fk_callV0I (ci := 1) (rest := []) X hq rfl (c_X2_no hv) n_X2_no q1672 q1674 qs64 q126 q1675 rfl dX2_settles_14 rfl rfl rfl rfl rfl (Nat.le_refl _) (Nat.le_refl _) ?_
    cases hf
    exact fk_ireturn X Y dX2_settles_17 rfl
/-! FigureKneeModel round (I)I -/
theorem n_X2_round : fk_N yX2_round 1 := ⟨by decide +kernel, by decide +kernel, by decide +kernel, by decide +kernel⟩
def f_X2_round (a0 : Option Nat) (a1 : Int32) (m0 : fk_M) : Option (Int32 × fk_M) :=
  (isO m0 a0 1).bind fun u1 => (f_X2_good a0 m0).bind fun m2 => (isO m2 a0 1).bind fun u3 => (f_X2_isPair a0 a1 m2).bind fun z4 => if z4 = 0 then ((isO m2 a0 1).bind fun u5 => bn2 (f_X2_no a0 1 m2) fun z6 m7 => some (z6, m7)) else ((isO m2 a0 1).bind fun u8 => (f_X2_goRound a0 a1 m2).bind fun m9 => (gI m9 a0 1 29).bind fun z10 => some (z10, m9))
set_option maxHeartbeats 4000000 in
theorem c_X2_round {l : Launch} {G : fk_G} {b0 : Nat} {n : Nat} {a0 : Option Nat} {a1 : Int32} {m0 : fk_M} {r : Int32} {mF : fk_M} (hf : f_X2_round a0 a1 m0 = some (r, mF)) : fk_Ct l G b0 yX2_round cX2_round 2 (some .int) 5 158 [tR a0, tI a1] n m0 (some (tI r)) n mF 0 0 := by
  refine fk_enter n_X2_round.1 rfl ?_
  intro E X0 Y
  have X : fk_X E l G b0 "FigureKneeModel" "round" cX2_round 2 5 158 0 0 := X0
  show fk_W E 2 n m0 0 0 0 [(0, tR a0), (1, tI a1)] []
  unfold f_X2_round at hf
  refine fk_aload_n X 0 dX2_round_0 rfl ?_
  obtain ⟨u1, hq, hf⟩ := bI hf
  obtain ⟨m2, hv, hf⟩ := bI hf
  refine fk_callV0V (ci := 1) (rest := []) X hq rfl (c_X2_good hv) n_X2_good q1665 q1667 qs63 q126 q1668 rfl dX2_round_1 rfl rfl rfl rfl rfl (Nat.le_refl _) (Nat.le_refl _) ?_
  refine fk_aload_n X 0 dX2_round_4 rfl ?_
  refine fk_iload_n X 1 dX2_round_5 rfl ?_
  obtain ⟨u3, hq, hf⟩ := bI hf
  obtain ⟨z4, hv, hf⟩ := bI hf
  refine fk_callV0I (ci := 1) (rest := []) X hq rfl (c_X2_isPair hv) n_X2_isPair q1820 q1822 qs87 q126 q1823 rfl dX2_round_6 rfl rfl rfl rfl rfl (Nat.le_refl _) (Nat.le_refl _) ?_
  refine fk_if_ne' X 18 dX2_round_9 rfl hf (fun hf => ?_) (fun hf => ?_)
  · refine fk_aload_n X 0 dX2_round_18 rfl ?_
    refine fk_iload_n X 1 dX2_round_19 rfl ?_
    obtain ⟨u8, hq, hf⟩ := bI hf
    obtain ⟨m9, hv, hf⟩ := bI hf
    refine fk_callV0V (ci := 1) (rest := []) X hq rfl (c_X2_goRound hv) n_X2_goRound q1876 q1878 qs96 q126 q1879 rfl dX2_round_20 rfl rfl rfl rfl rfl (Nat.le_refl _) (Nat.le_refl _) ?_
    refine fk_aload_n X 0 dX2_round_23 rfl ?_
    refine fk_getI' X fd_1_29 q1555 dX2_round_24 hf (fun z10 hf => ?_)
    cases hf
    exact fk_ireturn X Y dX2_round_27 rfl
  · refine fk_aload_n X 0 dX2_round_12 rfl ?_
    refine fk_iconst (v := 1) X dX2_round_13 rfl ?_
    obtain ⟨u5, hq, hf⟩ := bI hf
    obtain ⟨z6, m7, hv, hf⟩ := bn2_eq hf
    refine fk_callV0I (ci := 1) (rest := []) X hq rfl (c_X2_no hv) n_X2_no q1672 q1674 qs64 q126 q1675 rfl dX2_round_14 rfl rfl rfl rfl rfl (Nat.le_refl _) (Nat.le_refl _) ?_
    cases hf
    exact fk_ireturn X Y dX2_round_17 rfl
/-! FigureKneeModel saysLate (II)I -/
theorem n_X2_saysLate : fk_N yX2_saysLate 2 := ⟨by decide +kernel, by decide +kernel, by decide +kernel, by decide +kernel⟩
def f_X2_saysLate (a0 : Option Nat) (a1 : Int32) (a2 : Int32) (m0 : fk_M) : Option (Int32 × fk_M) :=
  (isO m0 a0 1).bind fun u1 => (f_X2_good a0 m0).bind fun m2 => (isO m2 a0 1).bind fun u3 => (f_X2_isPair a0 a1 m2).bind fun z4 => (f_X2_in a2 0 2000000000 m2).bind fun z5 => (isO m2 a0 1).bind fun u6 => (f_X2_why a0 z4 z5 m2).bind fun z7 => if z7 = 0 then ((isO m2 a0 1).bind fun u8 => (f_X2_goRound a0 a1 m2).bind fun m9 => (gI m9 a0 1 26).bind fun z10 => if z10 ≤ a2 then ((gR m9 a0 1 24).bind fun z11 => (gI m9 a0 1 26).bind fun z12 => (gI m9 a0 1 26).bind fun z13 => (gI m9 a0 1 27).bind fun z14 => if z14 = 0 then none else ((aI m9 z11 0 (z12 + (i_rem (a2 - z13) z14))).bind fun z15 => some (z15, m9))) else ((gR m9 a0 1 24).bind fun z16 => (aI m9 z16 0 a2).bind fun z17 => some (z17, m9))) else ((isO m2 a0 1).bind fun u18 => bn2 (f_X2_no a0 z7 m2) fun z19 m20 => some (z19, m20))
set_option maxHeartbeats 4000000 in
theorem c_X2_saysLate {l : Launch} {G : fk_G} {b0 : Nat} {n : Nat} {a0 : Option Nat} {a1 : Int32} {a2 : Int32} {m0 : fk_M} {r : Int32} {mF : fk_M} (hf : f_X2_saysLate a0 a1 a2 m0 = some (r, mF)) : fk_Ct l G b0 yX2_saysLate cX2_saysLate 4 (some .int) 5 158 [tR a0, tI a1, tI a2] n m0 (some (tI r)) n mF 0 0 := by
  refine fk_enter n_X2_saysLate.1 rfl ?_
  intro E X0 Y
  have X : fk_X E l G b0 "FigureKneeModel" "saysLate" cX2_saysLate 4 5 158 0 0 := X0
  show fk_W E 4 n m0 0 0 0 [(0, tR a0), (1, tI a1), (2, tI a2)] []
  unfold f_X2_saysLate at hf
  refine fk_aload_n X 0 dX2_saysLate_0 rfl ?_
  obtain ⟨u1, hq, hf⟩ := bI hf
  obtain ⟨m2, hv, hf⟩ := bI hf
  refine fk_callV0V (ci := 1) (rest := []) X hq rfl (c_X2_good hv) n_X2_good q1665 q1667 qs63 q126 q1668 rfl dX2_saysLate_1 rfl rfl rfl rfl rfl (Nat.le_refl _) (Nat.le_refl _) ?_
  refine fk_aload_n X 0 dX2_saysLate_4 rfl ?_
  refine fk_aload_n X 0 dX2_saysLate_5 rfl ?_
  refine fk_iload_n X 1 dX2_saysLate_6 rfl ?_
  obtain ⟨u3, hq, hf⟩ := bI hf
  obtain ⟨z4, hv, hf⟩ := bI hf
  refine fk_callV0I (ci := 1) (rest := [tR a0]) X hq rfl (c_X2_isPair hv) n_X2_isPair q1820 q1822 qs87 q126 q1823 rfl dX2_saysLate_7 rfl rfl rfl rfl rfl (Nat.le_refl _) (Nat.le_refl _) ?_
  refine fk_iload_n X 2 dX2_saysLate_10 rfl ?_
  refine fk_iconst (v := 0) X dX2_saysLate_11 rfl ?_
  refine fk_ldcw X q1892 dX2_saysLate_12 ?_
  obtain ⟨z5, hv, hf⟩ := bI hf
  refine fk_callS0I (rest := [tI z4, tR a0]) X (c_X2_in hv) n_X2_in q1669 q1670 q126 q1671 dX2_saysLate_15 rfl rfl rfl rfl rfl (Nat.le_refl _) (Nat.le_refl _) ?_
  obtain ⟨u6, hq, hf⟩ := bI hf
  obtain ⟨z7, hv, hf⟩ := bI hf
  refine fk_callV0I (ci := 1) (rest := []) X hq rfl (c_X2_why hv) n_X2_why q1836 q1838 qs90 q126 q1839 rfl dX2_saysLate_18 rfl rfl rfl rfl rfl (Nat.le_refl _) (Nat.le_refl _) ?_
  refine fk_istore_n X [(3, tI z7), (0, tR a0), (1, tI a1), (2, tI a2)] dX2_saysLate_21 rfl rfl ?_
  refine fk_iload_n X 0 dX2_saysLate_22 rfl ?_
  refine fk_if_eq' X 32 dX2_saysLate_23 rfl hf (fun hf => ?_) (fun hf => ?_)
  · refine fk_aload_n X 1 dX2_saysLate_32 rfl ?_
    refine fk_iload_n X 2 dX2_saysLate_33 rfl ?_
    obtain ⟨u8, hq, hf⟩ := bI hf
    obtain ⟨m9, hv, hf⟩ := bI hf
    refine fk_callV0V (ci := 1) (rest := []) X hq rfl (c_X2_goRound hv) n_X2_goRound q1876 q1878 qs96 q126 q1879 rfl dX2_saysLate_34 rfl rfl rfl rfl rfl (Nat.le_refl _) (Nat.le_refl _) ?_
    refine fk_iload_n X 3 dX2_saysLate_37 rfl ?_
    refine fk_aload_n X 1 dX2_saysLate_38 rfl ?_
    refine fk_getI' X fd_1_26 q1552 dX2_saysLate_39 hf (fun z10 hf => ?_)
    refine fk_icmp_ge' X 54 dX2_saysLate_42 rfl hf (fun hf => ?_) (fun hf => ?_)
    · refine fk_aload_n X 1 dX2_saysLate_54 rfl ?_
      refine fk_getR' X fd_1_24 q1550 dX2_saysLate_55 hf (fun z11 hf => ?_)
      refine fk_aload_n X 1 dX2_saysLate_58 rfl ?_
      refine fk_getI' X fd_1_26 q1552 dX2_saysLate_59 hf (fun z12 hf => ?_)
      refine fk_iload_n X 3 dX2_saysLate_62 rfl ?_
      refine fk_aload_n X 1 dX2_saysLate_63 rfl ?_
      refine fk_getI' X fd_1_26 q1552 dX2_saysLate_64 hf (fun z13 hf => ?_)
      refine fk_isub X dX2_saysLate_67 ?_
      refine fk_aload_n X 1 dX2_saysLate_68 rfl ?_
      refine fk_getI' X fd_1_27 q1553 dX2_saysLate_69 hf (fun z14 hf => ?_)
      refine fk_irem' X dX2_saysLate_72 hf (fun hf => ?_)
      refine fk_iadd X dX2_saysLate_73 ?_
      refine fk_iaload' X dX2_saysLate_74 hf (fun z15 hf => ?_)
      cases hf
      exact fk_ireturn X Y dX2_saysLate_75 rfl
    · refine fk_aload_n X 1 dX2_saysLate_45 rfl ?_
      refine fk_getR' X fd_1_24 q1550 dX2_saysLate_46 hf (fun z16 hf => ?_)
      refine fk_iload_n X 3 dX2_saysLate_49 rfl ?_
      refine fk_iaload' X dX2_saysLate_50 hf (fun z17 hf => ?_)
      refine fk_goto X 75 dX2_saysLate_51 rfl ?_
      cases hf
      exact fk_ireturn X Y dX2_saysLate_75 rfl
  · refine fk_aload_n X 1 dX2_saysLate_26 rfl ?_
    refine fk_iload_n X 0 dX2_saysLate_27 rfl ?_
    obtain ⟨u18, hq, hf⟩ := bI hf
    obtain ⟨z19, m20, hv, hf⟩ := bn2_eq hf
    refine fk_callV0I (ci := 1) (rest := []) X hq rfl (c_X2_no hv) n_X2_no q1672 q1674 qs64 q126 q1675 rfl dX2_saysLate_28 rfl rfl rfl rfl rfl (Nat.le_refl _) (Nat.le_refl _) ?_
    cases hf
    exact fk_ireturn X Y dX2_saysLate_31 rfl
/-! FigureKneeModel extremeOf (II)I -/
theorem n_X2_extremeOf : fk_N yX2_extremeOf 2 := ⟨by decide +kernel, by decide +kernel, by decide +kernel, by decide +kernel⟩
def f_X2_extremeOf_J63 (R18 : Int32 → Int32 → Option (Int32 × fk_M)) (x0 : Option Nat) (x2 : Int32) (x4 : Int32) (y0 : Int32) (m0 : fk_M) : Option (Int32 × fk_M) :=
  R18 y0 (x4 + 1)
set_option maxHeartbeats 4000000 in
theorem w_X2_extremeOf_J63 {E : fk_E} {l : Launch} {G : fk_G} {b0 n : Nat} {r : Int32} {mF : fk_M} (X : fk_X E l G b0 "FigureKneeModel" "extremeOf" cX2_extremeOf 5 5 158 0 0) (Y : fk_Y E (some .int) (some (tI r)) n mF 0 0) (x0 : Option Nat) (x2 : Int32) (x4 : Int32) (y0 : Int32) (m0 : fk_M) {R18 : Int32 → Int32 → Option (Int32 × fk_M)} (hR18 : ∀ (v3 : Int32) (v4 : Int32), R18 v3 v4 = some (r, mF) → fk_W E 5 n m0 0 0 18 [(0, tR x0), (2, tI x2), (3, tI v3), (4, tI v4)] []) (hf : f_X2_extremeOf_J63 R18 x0 x2 x4 y0 m0 = some (r, mF)) : fk_W E 5 n m0 0 0 63 [(0, tR x0), (2, tI x2), (4, tI x4)] [tI y0] := by
  unfold f_X2_extremeOf_J63 at hf
  refine fk_istore_n X [(3, tI y0), (0, tR x0), (2, tI x2), (4, tI x4)] dX2_extremeOf_63 rfl rfl ?_
  refine fk_iinc X 3 [(4, tI (x4 + 1)), (3, tI y0), (0, tR x0), (2, tI x2)] dX2_extremeOf_64 rfl rfl rfl rfl ?_
  refine fk_goto X 18 dX2_extremeOf_67 rfl ?_
  exact fk_cut' (hR18 y0 (x4 + 1)  hf) [2, 3, 1, 0] rfl
def f_X2_extremeOf_L18 (x0 : Option Nat) (x2 : Int32) (m0 : fk_M) : Nat → Int32 → Int32 → Option (Int32 × fk_M)
  | 0, _, _ => none
  | N + 1, x3, x4 =>
  (gI m0 x0 1 29).bind fun z1 => if z1 ≤ x4 then (some (x3, m0)) else ((gR m0 x0 1 24).bind fun z2 => (gI m0 x0 1 28).bind fun z3 => (aI m0 z2 0 (z3 + x4)).bind fun z4 => if (x2 * z4) ≤ (x2 * x3) then (f_X2_extremeOf_J63 (f_X2_extremeOf_L18 x0 x2 m0 N) x0 x2 x4 x3 m0) else ((gR m0 x0 1 24).bind fun z5 => (gI m0 x0 1 28).bind fun z6 => (aI m0 z5 0 (z6 + x4)).bind fun z7 => f_X2_extremeOf_J63 (f_X2_extremeOf_L18 x0 x2 m0 N) x0 x2 x4 z7 m0))
set_option maxHeartbeats 4000000 in
theorem w_X2_extremeOf_L18 {E : fk_E} {l : Launch} {G : fk_G} {b0 n : Nat} {r : Int32} {mF : fk_M} (X : fk_X E l G b0 "FigureKneeModel" "extremeOf" cX2_extremeOf 5 5 158 0 0) (Y : fk_Y E (some .int) (some (tI r)) n mF 0 0) (x0 : Option Nat) (x2 : Int32) (m0 : fk_M) : ∀ (N : Nat) (x3 : Int32) (x4 : Int32), f_X2_extremeOf_L18 x0 x2 m0 N x3 x4 = some (r, mF) → fk_W E 5 n m0 0 0 18 [(0, tR x0), (2, tI x2), (3, tI x3), (4, tI x4)] [] := by
  intro N
  induction N with
  | zero =>
    intro x3 x4 hf
    have hf : (none : Option (Int32 × fk_M)) = some _ := hf
    cases hf
  | succ N ih =>
    intro x3 x4 hf
    rw [f_X2_extremeOf_L18] at hf
    refine fk_iload X 3 dX2_extremeOf_18 rfl ?_
    refine fk_aload_n X 0 dX2_extremeOf_20 rfl ?_
    refine fk_getI' X fd_1_29 q1555 dX2_extremeOf_21 hf (fun z1 hf => ?_)
    refine fk_icmp_ge' X 70 dX2_extremeOf_24 rfl hf (fun hf => ?_) (fun hf => ?_)
    · refine fk_iload_n X 2 dX2_extremeOf_70 rfl ?_
      cases hf
      exact fk_ireturn X Y dX2_extremeOf_71 rfl
    · refine fk_iload_n X 1 dX2_extremeOf_27 rfl ?_
      refine fk_aload_n X 0 dX2_extremeOf_28 rfl ?_
      refine fk_getR' X fd_1_24 q1550 dX2_extremeOf_29 hf (fun z2 hf => ?_)
      refine fk_aload_n X 0 dX2_extremeOf_32 rfl ?_
      refine fk_getI' X fd_1_28 q1554 dX2_extremeOf_33 hf (fun z3 hf => ?_)
      refine fk_iload X 3 dX2_extremeOf_36 rfl ?_
      refine fk_iadd X dX2_extremeOf_38 ?_
      refine fk_iaload' X dX2_extremeOf_39 hf (fun z4 hf => ?_)
      refine fk_imul X dX2_extremeOf_40 ?_
      refine fk_iload_n X 1 dX2_extremeOf_41 rfl ?_
      refine fk_iload_n X 2 dX2_extremeOf_42 rfl ?_
      refine fk_imul X dX2_extremeOf_43 ?_
      refine fk_icmp_le' X 62 dX2_extremeOf_44 rfl hf (fun hf => ?_) (fun hf => ?_)
      · refine fk_iload_n X 2 dX2_extremeOf_62 rfl ?_
        exact fk_cut' (w_X2_extremeOf_J63 X Y x0 x2 x4 x3 m0 ih hf) [0, 1, 3] rfl
      · refine fk_aload_n X 0 dX2_extremeOf_47 rfl ?_
        refine fk_getR' X fd_1_24 q1550 dX2_extremeOf_48 hf (fun z5 hf => ?_)
        refine fk_aload_n X 0 dX2_extremeOf_51 rfl ?_
        refine fk_getI' X fd_1_28 q1554 dX2_extremeOf_52 hf (fun z6 hf => ?_)
        refine fk_iload X 3 dX2_extremeOf_55 rfl ?_
        refine fk_iadd X dX2_extremeOf_57 ?_
        refine fk_iaload' X dX2_extremeOf_58 hf (fun z7 hf => ?_)
        refine fk_goto X 63 dX2_extremeOf_59 rfl ?_
        exact fk_cut' (w_X2_extremeOf_J63 X Y x0 x2 x4 z7 m0 ih hf) [0, 1, 3] rfl
def f_X2_extremeOf (a0 : Option Nat) (a1 : Int32) (a2 : Int32) (m0 : fk_M) : Option (Int32 × fk_M) :=
  (isO m0 a0 1).bind fun u1 => (f_X2_goRound a0 a1 m0).bind fun m2 => (gR m2 a0 1 24).bind fun z3 => (gI m2 a0 1 28).bind fun z4 => (aI m2 z3 0 z4).bind fun z5 => f_X2_extremeOf_L18 a0 a2 m2 fk_fuel z5 0
set_option maxHeartbeats 4000000 in
theorem c_X2_extremeOf {l : Launch} {G : fk_G} {b0 : Nat} {n : Nat} {a0 : Option Nat} {a1 : Int32} {a2 : Int32} {m0 : fk_M} {r : Int32} {mF : fk_M} (hf : f_X2_extremeOf a0 a1 a2 m0 = some (r, mF)) : fk_Ct l G b0 yX2_extremeOf cX2_extremeOf 5 (some .int) 5 158 [tR a0, tI a1, tI a2] n m0 (some (tI r)) n mF 0 0 := by
  refine fk_enter n_X2_extremeOf.1 rfl ?_
  intro E X0 Y
  have X : fk_X E l G b0 "FigureKneeModel" "extremeOf" cX2_extremeOf 5 5 158 0 0 := X0
  show fk_W E 5 n m0 0 0 0 [(0, tR a0), (1, tI a1), (2, tI a2)] []
  unfold f_X2_extremeOf at hf
  refine fk_aload_n X 0 dX2_extremeOf_0 rfl ?_
  refine fk_iload_n X 1 dX2_extremeOf_1 rfl ?_
  obtain ⟨u1, hq, hf⟩ := bI hf
  obtain ⟨m2, hv, hf⟩ := bI hf
  refine fk_callV0V (ci := 1) (rest := []) X hq rfl (c_X2_goRound hv) n_X2_goRound q1876 q1878 qs96 q126 q1879 rfl dX2_extremeOf_2 rfl rfl rfl rfl rfl (Nat.le_refl _) (Nat.le_refl _) ?_
  refine fk_aload_n X 0 dX2_extremeOf_5 rfl ?_
  refine fk_getR' X fd_1_24 q1550 dX2_extremeOf_6 hf (fun z3 hf => ?_)
  refine fk_aload_n X 0 dX2_extremeOf_9 rfl ?_
  refine fk_getI' X fd_1_28 q1554 dX2_extremeOf_10 hf (fun z4 hf => ?_)
  refine fk_iaload' X dX2_extremeOf_13 hf (fun z5 hf => ?_)
  refine fk_istore_n X [(3, tI z5), (0, tR a0), (1, tI a1), (2, tI a2)] dX2_extremeOf_14 rfl rfl ?_
  refine fk_iconst (v := 0) X dX2_extremeOf_15 rfl ?_
  refine fk_istore X [(4, tI 0), (3, tI z5), (0, tR a0), (1, tI a1), (2, tI a2)] dX2_extremeOf_16 rfl rfl ?_
  exact fk_cut' (w_X2_extremeOf_L18 X Y a0 a2 m2 fk_fuel z5 0 hf) [2, 4, 1, 0] rfl
/-! FigureKneeModel roundMost (I)I -/
theorem n_X2_roundMost : fk_N yX2_roundMost 1 := ⟨by decide +kernel, by decide +kernel, by decide +kernel, by decide +kernel⟩
def f_X2_roundMost (a0 : Option Nat) (a1 : Int32) (m0 : fk_M) : Option (Int32 × fk_M) :=
  (isO m0 a0 1).bind fun u1 => (f_X2_good a0 m0).bind fun m2 => (isO m2 a0 1).bind fun u3 => (f_X2_isPair a0 a1 m2).bind fun z4 => if z4 = 0 then ((isO m2 a0 1).bind fun u5 => bn2 (f_X2_no a0 1 m2) fun z6 m7 => some (z6, m7)) else ((isO m2 a0 1).bind fun u8 => bn2 (f_X2_extremeOf a0 a1 1 m2) fun z9 m10 => some (z9, m10))
set_option maxHeartbeats 4000000 in
theorem c_X2_roundMost {l : Launch} {G : fk_G} {b0 : Nat} {n : Nat} {a0 : Option Nat} {a1 : Int32} {m0 : fk_M} {r : Int32} {mF : fk_M} (hf : f_X2_roundMost a0 a1 m0 = some (r, mF)) : fk_Ct l G b0 yX2_roundMost cX2_roundMost 2 (some .int) 6 182 [tR a0, tI a1] n m0 (some (tI r)) n mF 0 0 := by
  refine fk_enter n_X2_roundMost.1 rfl ?_
  intro E X0 Y
  have X : fk_X E l G b0 "FigureKneeModel" "roundMost" cX2_roundMost 2 6 182 0 0 := X0
  show fk_W E 2 n m0 0 0 0 [(0, tR a0), (1, tI a1)] []
  unfold f_X2_roundMost at hf
  refine fk_aload_n X 0 dX2_roundMost_0 rfl ?_
  obtain ⟨u1, hq, hf⟩ := bI hf
  obtain ⟨m2, hv, hf⟩ := bI hf
  refine fk_callV0V (ci := 1) (rest := []) X hq rfl (c_X2_good hv) n_X2_good q1665 q1667 qs63 q126 q1668 rfl dX2_roundMost_1 rfl rfl rfl rfl rfl (Nat.le_refl _) (Nat.le_refl _) ?_
  refine fk_aload_n X 0 dX2_roundMost_4 rfl ?_
  refine fk_iload_n X 1 dX2_roundMost_5 rfl ?_
  obtain ⟨u3, hq, hf⟩ := bI hf
  obtain ⟨z4, hv, hf⟩ := bI hf
  refine fk_callV0I (ci := 1) (rest := []) X hq rfl (c_X2_isPair hv) n_X2_isPair q1820 q1822 qs87 q126 q1823 rfl dX2_roundMost_6 rfl rfl rfl rfl rfl (Nat.le_refl _) (Nat.le_refl _) ?_
  refine fk_if_eq' X 21 dX2_roundMost_9 rfl hf (fun hf => ?_) (fun hf => ?_)
  · refine fk_aload_n X 0 dX2_roundMost_21 rfl ?_
    refine fk_iconst (v := 1) X dX2_roundMost_22 rfl ?_
    obtain ⟨u5, hq, hf⟩ := bI hf
    obtain ⟨z6, m7, hv, hf⟩ := bn2_eq hf
    refine fk_callV0I (ci := 1) (rest := []) X hq rfl (c_X2_no hv) n_X2_no q1672 q1674 qs64 q126 q1675 rfl dX2_roundMost_23 rfl rfl rfl rfl rfl (Nat.le_refl _) (Nat.le_refl _) ?_
    cases hf
    exact fk_ireturn X Y dX2_roundMost_26 rfl
  · refine fk_aload_n X 0 dX2_roundMost_12 rfl ?_
    refine fk_iload_n X 1 dX2_roundMost_13 rfl ?_
    refine fk_iconst (v := 1) X dX2_roundMost_14 rfl ?_
    obtain ⟨u8, hq, hf⟩ := bI hf
    obtain ⟨z9, m10, hv, hf⟩ := bn2_eq hf
    refine fk_callV0I (ci := 1) (rest := []) X hq rfl (c_X2_extremeOf hv) n_X2_extremeOf q1897 q1899 qs98 q126 q1900 rfl dX2_roundMost_15 rfl rfl rfl rfl rfl (Nat.le_refl _) (Nat.le_refl _) ?_
    refine fk_goto X 26 dX2_roundMost_18 rfl ?_
    cases hf
    exact fk_ireturn X Y dX2_roundMost_26 rfl
/-! FigureKneeModel roundLeast (I)I -/
theorem n_X2_roundLeast : fk_N yX2_roundLeast 1 := ⟨by decide +kernel, by decide +kernel, by decide +kernel, by decide +kernel⟩
def f_X2_roundLeast (a0 : Option Nat) (a1 : Int32) (m0 : fk_M) : Option (Int32 × fk_M) :=
  (isO m0 a0 1).bind fun u1 => (f_X2_good a0 m0).bind fun m2 => (isO m2 a0 1).bind fun u3 => (f_X2_isPair a0 a1 m2).bind fun z4 => if z4 = 0 then ((isO m2 a0 1).bind fun u5 => bn2 (f_X2_no a0 1 m2) fun z6 m7 => some (z6, m7)) else ((isO m2 a0 1).bind fun u8 => bn2 (f_X2_extremeOf a0 a1 (-1) m2) fun z9 m10 => some (z9, m10))
set_option maxHeartbeats 4000000 in
theorem c_X2_roundLeast {l : Launch} {G : fk_G} {b0 : Nat} {n : Nat} {a0 : Option Nat} {a1 : Int32} {m0 : fk_M} {r : Int32} {mF : fk_M} (hf : f_X2_roundLeast a0 a1 m0 = some (r, mF)) : fk_Ct l G b0 yX2_roundLeast cX2_roundLeast 2 (some .int) 6 182 [tR a0, tI a1] n m0 (some (tI r)) n mF 0 0 := by
  refine fk_enter n_X2_roundLeast.1 rfl ?_
  intro E X0 Y
  have X : fk_X E l G b0 "FigureKneeModel" "roundLeast" cX2_roundLeast 2 6 182 0 0 := X0
  show fk_W E 2 n m0 0 0 0 [(0, tR a0), (1, tI a1)] []
  unfold f_X2_roundLeast at hf
  refine fk_aload_n X 0 dX2_roundLeast_0 rfl ?_
  obtain ⟨u1, hq, hf⟩ := bI hf
  obtain ⟨m2, hv, hf⟩ := bI hf
  refine fk_callV0V (ci := 1) (rest := []) X hq rfl (c_X2_good hv) n_X2_good q1665 q1667 qs63 q126 q1668 rfl dX2_roundLeast_1 rfl rfl rfl rfl rfl (Nat.le_refl _) (Nat.le_refl _) ?_
  refine fk_aload_n X 0 dX2_roundLeast_4 rfl ?_
  refine fk_iload_n X 1 dX2_roundLeast_5 rfl ?_
  obtain ⟨u3, hq, hf⟩ := bI hf
  obtain ⟨z4, hv, hf⟩ := bI hf
  refine fk_callV0I (ci := 1) (rest := []) X hq rfl (c_X2_isPair hv) n_X2_isPair q1820 q1822 qs87 q126 q1823 rfl dX2_roundLeast_6 rfl rfl rfl rfl rfl (Nat.le_refl _) (Nat.le_refl _) ?_
  refine fk_if_eq' X 21 dX2_roundLeast_9 rfl hf (fun hf => ?_) (fun hf => ?_)
  · refine fk_aload_n X 0 dX2_roundLeast_21 rfl ?_
    refine fk_iconst (v := 1) X dX2_roundLeast_22 rfl ?_
    obtain ⟨u5, hq, hf⟩ := bI hf
    obtain ⟨z6, m7, hv, hf⟩ := bn2_eq hf
    refine fk_callV0I (ci := 1) (rest := []) X hq rfl (c_X2_no hv) n_X2_no q1672 q1674 qs64 q126 q1675 rfl dX2_roundLeast_23 rfl rfl rfl rfl rfl (Nat.le_refl _) (Nat.le_refl _) ?_
    cases hf
    exact fk_ireturn X Y dX2_roundLeast_26 rfl
  · refine fk_aload_n X 0 dX2_roundLeast_12 rfl ?_
    refine fk_iload_n X 1 dX2_roundLeast_13 rfl ?_
    refine fk_iconst (v := (-1)) X dX2_roundLeast_14 rfl ?_
    obtain ⟨u8, hq, hf⟩ := bI hf
    obtain ⟨z9, m10, hv, hf⟩ := bn2_eq hf
    refine fk_callV0I (ci := 1) (rest := []) X hq rfl (c_X2_extremeOf hv) n_X2_extremeOf q1897 q1899 qs98 q126 q1900 rfl dX2_roundLeast_15 rfl rfl rfl rfl rfl (Nat.le_refl _) (Nat.le_refl _) ?_
    refine fk_goto X 26 dX2_roundLeast_18 rfl ?_
    cases hf
    exact fk_ireturn X Y dX2_roundLeast_26 rfl
/-! FigureKneeModel turnsAbout (I)I -/
theorem n_X2_turnsAbout : fk_N yX2_turnsAbout 1 := ⟨by decide +kernel, by decide +kernel, by decide +kernel, by decide +kernel⟩
def f_X2_turnsAbout_L22 (x0 : Option Nat) (x1 : Int32) (m0 : fk_M) : Nat → Int32 → Int32 → Option (Int32 × fk_M)
  | 0, _, _ => none
  | N + 1, x2, x3 =>
  if 60 ≤ x3 then (some (x2, m0)) else ((isO m0 x0 1).bind fun u1 => (f_X2_saysIn x0 x1 x3 m0).bind fun z2 => (isO m0 x0 1).bind fun u3 => (f_X2_isMore x0 z2 m0).bind fun z4 => (isO m0 x0 1).bind fun u5 => (f_X2_saysIn x0 x1 (x3 + 1) m0).bind fun z6 => (isO m0 x0 1).bind fun u7 => (f_X2_isMore x0 z6 m0).bind fun z8 => f_X2_turnsAbout_L22 x0 x1 m0 N (x2 + (if z4 = z8 then (0 : Int32) else 1)) (x3 + 1))
set_option maxHeartbeats 4000000 in
theorem w_X2_turnsAbout_L22 {E : fk_E} {l : Launch} {G : fk_G} {b0 n : Nat} {r : Int32} {mF : fk_M} (X : fk_X E l G b0 "FigureKneeModel" "turnsAbout" cX2_turnsAbout 4 6 180 0 0) (Y : fk_Y E (some .int) (some (tI r)) n mF 0 0) (x0 : Option Nat) (x1 : Int32) (m0 : fk_M) : ∀ (N : Nat) (x2 : Int32) (x3 : Int32), f_X2_turnsAbout_L22 x0 x1 m0 N x2 x3 = some (r, mF) → fk_W E 4 n m0 0 0 22 [(0, tR x0), (1, tI x1), (2, tI x2), (3, tI x3)] [] := by
  intro N
  induction N with
  | zero =>
    intro x2 x3 hf
    have hf : (none : Option (Int32 × fk_M)) = some _ := hf
    cases hf
  | succ N ih =>
    intro x2 x3 hf
    rw [f_X2_turnsAbout_L22] at hf
    refine fk_iload_n X 3 dX2_turnsAbout_22 rfl ?_
    refine fk_bipush (v := 60) X dX2_turnsAbout_23 rfl ?_
    refine fk_icmp_ge' X 67 dX2_turnsAbout_25 rfl hf (fun hf => ?_) (fun hf => ?_)
    · refine fk_iload_n X 2 dX2_turnsAbout_67 rfl ?_
      cases hf
      exact fk_ireturn X Y dX2_turnsAbout_68 rfl
    · refine fk_iload_n X 2 dX2_turnsAbout_28 rfl ?_
      refine fk_aload_n X 0 dX2_turnsAbout_29 rfl ?_
      refine fk_aload_n X 0 dX2_turnsAbout_30 rfl ?_
      refine fk_iload_n X 1 dX2_turnsAbout_31 rfl ?_
      refine fk_iload_n X 3 dX2_turnsAbout_32 rfl ?_
      obtain ⟨u1, hq, hf⟩ := bI hf
      obtain ⟨z2, hv, hf⟩ := bI hf
      refine fk_callV0I (ci := 1) (rest := [tR x0, tI x2]) X hq rfl (c_X2_saysIn hv) n_X2_saysIn q1840 q1842 qs91 q126 q1843 rfl dX2_turnsAbout_33 rfl rfl rfl rfl rfl (Nat.le_refl _) (Nat.le_refl _) ?_
      obtain ⟨u3, hq, hf⟩ := bI hf
      obtain ⟨z4, hv, hf⟩ := bI hf
      refine fk_callV0I (ci := 1) (rest := [tI x2]) X hq rfl (c_X2_isMore hv) n_X2_isMore q1824 q1826 qs88 q126 q1827 rfl dX2_turnsAbout_36 rfl rfl rfl rfl rfl (Nat.le_refl _) (Nat.le_refl _) ?_
      refine fk_aload_n X 0 dX2_turnsAbout_39 rfl ?_
      refine fk_aload_n X 0 dX2_turnsAbout_40 rfl ?_
      refine fk_iload_n X 1 dX2_turnsAbout_41 rfl ?_
      refine fk_iload_n X 3 dX2_turnsAbout_42 rfl ?_
      refine fk_iconst (v := 1) X dX2_turnsAbout_43 rfl ?_
      refine fk_iadd X dX2_turnsAbout_44 ?_
      obtain ⟨u5, hq, hf⟩ := bI hf
      obtain ⟨z6, hv, hf⟩ := bI hf
      refine fk_callV0I (ci := 1) (rest := [tR x0, tI z4, tI x2]) X hq rfl (c_X2_saysIn hv) n_X2_saysIn q1840 q1842 qs91 q126 q1843 rfl dX2_turnsAbout_45 rfl rfl rfl rfl rfl (Nat.le_refl _) (Nat.le_refl _) ?_
      obtain ⟨u7, hq, hf⟩ := bI hf
      obtain ⟨z8, hv, hf⟩ := bI hf
      refine fk_callV0I (ci := 1) (rest := [tI z4, tI x2]) X hq rfl (c_X2_isMore hv) n_X2_isMore q1824 q1826 qs88 q126 q1827 rfl dX2_turnsAbout_48 rfl rfl rfl rfl rfl (Nat.le_refl _) (Nat.le_refl _) ?_
      have J1 : fk_W E 4 n m0 0 0 59 [(0, tR x0), (1, tI x1), (3, tI x3)] [tI (if z4 = z8 then (0 : Int32) else 1), tI x2] := by
        refine fk_iadd X dX2_turnsAbout_59 ?_
        refine fk_istore_n X [(2, tI (x2 + (if z4 = z8 then (0 : Int32) else 1))), (0, tR x0), (1, tI x1), (3, tI x3)] dX2_turnsAbout_60 rfl rfl ?_
        refine fk_iinc X 3 [(3, tI (x3 + 1)), (2, tI (x2 + (if z4 = z8 then (0 : Int32) else 1))), (0, tR x0), (1, tI x1)] dX2_turnsAbout_61 rfl rfl rfl rfl ?_
        refine fk_goto X 22 dX2_turnsAbout_64 rfl ?_
        exact fk_cut' (ih (x2 + (if z4 = z8 then (0 : Int32) else 1)) (x3 + 1)  hf) [2, 3, 1, 0] rfl
      refine fk_icmp_ne X 58 dX2_turnsAbout_51 rfl (fun hc2 => ?_) (fun hc2 => ?_)
      · refine fk_iconst (v := 1) X dX2_turnsAbout_58 rfl ?_
        simp only [if_neg hc2] at J1
        exact fk_cut' J1 [0, 1, 3] rfl
      · refine fk_iconst (v := 0) X dX2_turnsAbout_54 rfl ?_
        refine fk_goto X 59 dX2_turnsAbout_55 rfl ?_
        simp only [if_pos hc2] at J1
        exact fk_cut' J1 [0, 1, 3] rfl
def f_X2_turnsAbout (a0 : Option Nat) (a1 : Int32) (m0 : fk_M) : Option (Int32 × fk_M) :=
  (isO m0 a0 1).bind fun u1 => (f_X2_good a0 m0).bind fun m2 => (isO m2 a0 1).bind fun u3 => (f_X2_isPair a0 a1 m2).bind fun z4 => if z4 = 0 then ((isO m2 a0 1).bind fun u5 => bn2 (f_X2_no a0 1 m2) fun z6 m7 => some (z6, m7)) else (f_X2_turnsAbout_L22 a0 a1 m2 fk_fuel 0 0)
set_option maxHeartbeats 4000000 in
theorem c_X2_turnsAbout {l : Launch} {G : fk_G} {b0 : Nat} {n : Nat} {a0 : Option Nat} {a1 : Int32} {m0 : fk_M} {r : Int32} {mF : fk_M} (hf : f_X2_turnsAbout a0 a1 m0 = some (r, mF)) : fk_Ct l G b0 yX2_turnsAbout cX2_turnsAbout 4 (some .int) 6 180 [tR a0, tI a1] n m0 (some (tI r)) n mF 0 0 := by
  refine fk_enter n_X2_turnsAbout.1 rfl ?_
  intro E X0 Y
  have X : fk_X E l G b0 "FigureKneeModel" "turnsAbout" cX2_turnsAbout 4 6 180 0 0 := X0
  show fk_W E 4 n m0 0 0 0 [(0, tR a0), (1, tI a1)] []
  unfold f_X2_turnsAbout at hf
  refine fk_aload_n X 0 dX2_turnsAbout_0 rfl ?_
  obtain ⟨u1, hq, hf⟩ := bI hf
  obtain ⟨m2, hv, hf⟩ := bI hf
  refine fk_callV0V (ci := 1) (rest := []) X hq rfl (c_X2_good hv) n_X2_good q1665 q1667 qs63 q126 q1668 rfl dX2_turnsAbout_1 rfl rfl rfl rfl rfl (Nat.le_refl _) (Nat.le_refl _) ?_
  refine fk_aload_n X 0 dX2_turnsAbout_4 rfl ?_
  refine fk_iload_n X 1 dX2_turnsAbout_5 rfl ?_
  obtain ⟨u3, hq, hf⟩ := bI hf
  obtain ⟨z4, hv, hf⟩ := bI hf
  refine fk_callV0I (ci := 1) (rest := []) X hq rfl (c_X2_isPair hv) n_X2_isPair q1820 q1822 qs87 q126 q1823 rfl dX2_turnsAbout_6 rfl rfl rfl rfl rfl (Nat.le_refl _) (Nat.le_refl _) ?_
  refine fk_if_ne' X 18 dX2_turnsAbout_9 rfl hf (fun hf => ?_) (fun hf => ?_)
  · refine fk_iconst (v := 0) X dX2_turnsAbout_18 rfl ?_
    refine fk_istore_n X [(2, tI 0), (0, tR a0), (1, tI a1)] dX2_turnsAbout_19 rfl rfl ?_
    refine fk_iconst (v := 0) X dX2_turnsAbout_20 rfl ?_
    refine fk_istore_n X [(3, tI 0), (2, tI 0), (0, tR a0), (1, tI a1)] dX2_turnsAbout_21 rfl rfl ?_
    exact fk_cut' (w_X2_turnsAbout_L22 X Y a0 a1 m2 fk_fuel 0 0 hf) [2, 3, 1, 0] rfl
  · refine fk_aload_n X 0 dX2_turnsAbout_12 rfl ?_
    refine fk_iconst (v := 1) X dX2_turnsAbout_13 rfl ?_
    obtain ⟨u5, hq, hf⟩ := bI hf
    obtain ⟨z6, m7, hv, hf⟩ := bn2_eq hf
    refine fk_callV0I (ci := 1) (rest := []) X hq rfl (c_X2_no hv) n_X2_no q1672 q1674 qs64 q126 q1675 rfl dX2_turnsAbout_14 rfl rfl rfl rfl rfl (Nat.le_refl _) (Nat.le_refl _) ?_
    cases hf
    exact fk_ireturn X Y dX2_turnsAbout_17 rfl
/-! FigureKneeModel areTwo (II)Z -/
theorem n_X2_areTwo : fk_N yX2_areTwo 2 := ⟨by decide +kernel, by decide +kernel, by decide +kernel, by decide +kernel⟩
def f_X2_areTwo (a0 : Option Nat) (a1 : Int32) (a2 : Int32) (m : fk_M) : Option Int32 :=
  (isO m a0 1).bind fun u1 => (f_X2_isPair a0 a1 m).bind fun z2 => if z2 = 0 then (some 0) else ((isO m a0 1).bind fun u3 => (f_X2_isPair a0 a2 m).bind fun z4 => some (if z4 = 0 then (0 : Int32) else (if a1 = a2 then (0 : Int32) else 1)))
set_option maxHeartbeats 4000000 in
theorem c_X2_areTwo {l : Launch} {G : fk_G} {b0 : Nat} {n : Nat} {a0 : Option Nat} {a1 : Int32} {a2 : Int32} {m : fk_M} {r : Int32} (hf : f_X2_areTwo a0 a1 a2 m = some r) : fk_Ct l G b0 yX2_areTwo cX2_areTwo 3 (some .boolean) 3 103 [tR a0, tI a1, tI a2] n m (some (tI r)) n m 0 0 := by
  refine fk_enter n_X2_areTwo.1 rfl ?_
  intro E X0 Y
  have X : fk_X E l G b0 "FigureKneeModel" "areTwo" cX2_areTwo 3 3 103 0 0 := X0
  show fk_W E 3 n m 0 0 0 [(0, tR a0), (1, tI a1), (2, tI a2)] []
  unfold f_X2_areTwo at hf
  refine fk_aload_n X 0 dX2_areTwo_0 rfl ?_
  refine fk_iload_n X 1 dX2_areTwo_1 rfl ?_
  obtain ⟨u1, hq, hf⟩ := bI hf
  obtain ⟨z2, hv, hf⟩ := bI hf
  refine fk_callV0I (ci := 1) (rest := []) X hq rfl (c_X2_isPair hv) n_X2_isPair q1820 q1822 qs87 q126 q1823 rfl dX2_areTwo_2 rfl rfl rfl rfl rfl (Nat.le_refl _) (Nat.le_refl _) ?_
  refine fk_if_eq' X 25 dX2_areTwo_5 rfl hf (fun hf => ?_) (fun hf => ?_)
  · refine fk_iconst (v := 0) X dX2_areTwo_25 rfl ?_
    cases hf
    exact fk_ireturn X Y dX2_areTwo_26 (by decide +kernel)
  · refine fk_aload_n X 0 dX2_areTwo_8 rfl ?_
    refine fk_iload_n X 2 dX2_areTwo_9 rfl ?_
    obtain ⟨u3, hq, hf⟩ := bI hf
    obtain ⟨z4, hv, hf⟩ := bI hf
    refine fk_callV0I (ci := 1) (rest := []) X hq rfl (c_X2_isPair hv) n_X2_isPair q1820 q1822 qs87 q126 q1823 rfl dX2_areTwo_10 rfl rfl rfl rfl rfl (Nat.le_refl _) (Nat.le_refl _) ?_
    have J1 : fk_W E 3 n m 0 0 26 [] [tI (if z4 = 0 then (0 : Int32) else (if a1 = a2 then (0 : Int32) else 1))] := by
      cases hf
      exact fk_ireturn X Y dX2_areTwo_26 (by (repeat' split) <;> decide +kernel)
    refine fk_if_eq X 25 dX2_areTwo_13 rfl (fun hc2 => ?_) (fun hc2 => ?_)
    · refine fk_iconst (v := 0) X dX2_areTwo_25 rfl ?_
      simp only [if_pos hc2] at J1
      exact fk_cut' J1 [] rfl
    · refine fk_iload_n X 1 dX2_areTwo_16 rfl ?_
      refine fk_iload_n X 2 dX2_areTwo_17 rfl ?_
      have J3 : fk_W E 3 n m 0 0 26 [] [tI (if a1 = a2 then (0 : Int32) else 1)] := by
        simp only [if_neg hc2] at J1
        exact fk_cut' J1 [] rfl
      refine fk_icmp_eq X 25 dX2_areTwo_18 rfl (fun hc4 => ?_) (fun hc4 => ?_)
      · refine fk_iconst (v := 0) X dX2_areTwo_25 rfl ?_
        simp only [if_pos hc4] at J3
        exact fk_cut' J3 [] rfl
      · refine fk_iconst (v := 1) X dX2_areTwo_21 rfl ?_
        refine fk_goto X 26 dX2_areTwo_22 rfl ?_
        simp only [if_neg hc4] at J3
        exact fk_cut' J3 [] rfl
/-! FigureKneeModel alikeIn (II)I -/
theorem n_X2_alikeIn : fk_N yX2_alikeIn 2 := ⟨by decide +kernel, by decide +kernel, by decide +kernel, by decide +kernel⟩
def f_X2_alikeIn_L21 (x0 : Option Nat) (x1 : Int32) (x2 : Int32) (m0 : fk_M) : Nat → Int32 → Option (Int32 × fk_M)
  | 0, _ => none
  | N + 1, x3 =>
  if 60 < x3 then (some ((-2), m0)) else ((isO m0 x0 1).bind fun u1 => (f_X2_saysIn x0 x1 x3 m0).bind fun z2 => (isO m0 x0 1).bind fun u3 => (f_X2_saysIn x0 x2 x3 m0).bind fun z4 => if z2 = z4 then (some (x3, m0)) else (f_X2_alikeIn_L21 x0 x1 x2 m0 N (x3 + 1)))
set_option maxHeartbeats 4000000 in
theorem w_X2_alikeIn_L21 {E : fk_E} {l : Launch} {G : fk_G} {b0 n : Nat} {r : Int32} {mF : fk_M} (X : fk_X E l G b0 "FigureKneeModel" "alikeIn" cX2_alikeIn 4 6 180 0 0) (Y : fk_Y E (some .int) (some (tI r)) n mF 0 0) (x0 : Option Nat) (x1 : Int32) (x2 : Int32) (m0 : fk_M) : ∀ (N : Nat) (x3 : Int32), f_X2_alikeIn_L21 x0 x1 x2 m0 N x3 = some (r, mF) → fk_W E 4 n m0 0 0 21 [(0, tR x0), (1, tI x1), (2, tI x2), (3, tI x3)] [] := by
  intro N
  induction N with
  | zero =>
    intro x3 hf
    have hf : (none : Option (Int32 × fk_M)) = some _ := hf
    cases hf
  | succ N ih =>
    intro x3 hf
    rw [f_X2_alikeIn_L21] at hf
    refine fk_iload_n X 3 dX2_alikeIn_21 rfl ?_
    refine fk_bipush (v := 60) X dX2_alikeIn_22 rfl ?_
    refine fk_icmp_gt' X 50 dX2_alikeIn_24 rfl hf (fun hf => ?_) (fun hf => ?_)
    · refine fk_bipush (v := (-2)) X dX2_alikeIn_50 rfl ?_
      cases hf
      exact fk_ireturn X Y dX2_alikeIn_52 rfl
    · refine fk_aload_n X 0 dX2_alikeIn_27 rfl ?_
      refine fk_iload_n X 1 dX2_alikeIn_28 rfl ?_
      refine fk_iload_n X 3 dX2_alikeIn_29 rfl ?_
      obtain ⟨u1, hq, hf⟩ := bI hf
      obtain ⟨z2, hv, hf⟩ := bI hf
      refine fk_callV0I (ci := 1) (rest := []) X hq rfl (c_X2_saysIn hv) n_X2_saysIn q1840 q1842 qs91 q126 q1843 rfl dX2_alikeIn_30 rfl rfl rfl rfl rfl (Nat.le_refl _) (Nat.le_refl _) ?_
      refine fk_aload_n X 0 dX2_alikeIn_33 rfl ?_
      refine fk_iload_n X 2 dX2_alikeIn_34 rfl ?_
      refine fk_iload_n X 3 dX2_alikeIn_35 rfl ?_
      obtain ⟨u3, hq, hf⟩ := bI hf
      obtain ⟨z4, hv, hf⟩ := bI hf
      refine fk_callV0I (ci := 1) (rest := [tI z2]) X hq rfl (c_X2_saysIn hv) n_X2_saysIn q1840 q1842 qs91 q126 q1843 rfl dX2_alikeIn_36 rfl rfl rfl rfl rfl (Nat.le_refl _) (Nat.le_refl _) ?_
      refine fk_icmp_ne' X 44 dX2_alikeIn_39 rfl hf (fun hf => ?_) (fun hf => ?_)
      · refine fk_iinc X 3 [(3, tI (x3 + 1)), (0, tR x0), (1, tI x1), (2, tI x2)] dX2_alikeIn_44 rfl rfl rfl rfl ?_
        refine fk_goto X 21 dX2_alikeIn_47 rfl ?_
        exact fk_cut' (ih (x3 + 1)  hf) [1, 2, 3, 0] rfl
      · refine fk_iload_n X 3 dX2_alikeIn_42 rfl ?_
        cases hf
        exact fk_ireturn X Y dX2_alikeIn_43 rfl
def f_X2_alikeIn (a0 : Option Nat) (a1 : Int32) (a2 : Int32) (m0 : fk_M) : Option (Int32 × fk_M) :=
  (isO m0 a0 1).bind fun u1 => (f_X2_good a0 m0).bind fun m2 => (isO m2 a0 1).bind fun u3 => (f_X2_areTwo a0 a1 a2 m2).bind fun z4 => if z4 = 0 then ((isO m2 a0 1).bind fun u5 => bn2 (f_X2_no a0 1 m2) fun z6 m7 => some (z6, m7)) else (f_X2_alikeIn_L21 a0 a1 a2 m2 fk_fuel 0)
set_option maxHeartbeats 4000000 in
theorem c_X2_alikeIn {l : Launch} {G : fk_G} {b0 : Nat} {n : Nat} {a0 : Option Nat} {a1 : Int32} {a2 : Int32} {m0 : fk_M} {r : Int32} {mF : fk_M} (hf : f_X2_alikeIn a0 a1 a2 m0 = some (r, mF)) : fk_Ct l G b0 yX2_alikeIn cX2_alikeIn 4 (some .int) 6 180 [tR a0, tI a1, tI a2] n m0 (some (tI r)) n mF 0 0 := by
  refine fk_enter n_X2_alikeIn.1 rfl ?_
  intro E X0 Y
  have X : fk_X E l G b0 "FigureKneeModel" "alikeIn" cX2_alikeIn 4 6 180 0 0 := X0
  show fk_W E 4 n m0 0 0 0 [(0, tR a0), (1, tI a1), (2, tI a2)] []
  unfold f_X2_alikeIn at hf
  refine fk_aload_n X 0 dX2_alikeIn_0 rfl ?_
  obtain ⟨u1, hq, hf⟩ := bI hf
  obtain ⟨m2, hv, hf⟩ := bI hf
  refine fk_callV0V (ci := 1) (rest := []) X hq rfl (c_X2_good hv) n_X2_good q1665 q1667 qs63 q126 q1668 rfl dX2_alikeIn_1 rfl rfl rfl rfl rfl (Nat.le_refl _) (Nat.le_refl _) ?_
  refine fk_aload_n X 0 dX2_alikeIn_4 rfl ?_
  refine fk_iload_n X 1 dX2_alikeIn_5 rfl ?_
  refine fk_iload_n X 2 dX2_alikeIn_6 rfl ?_
  obtain ⟨u3, hq, hf⟩ := bI hf
  obtain ⟨z4, hv, hf⟩ := bI hf
  refine fk_callV0I (ci := 1) (rest := []) X hq rfl (c_X2_areTwo hv) n_X2_areTwo q1913 q1915 qs99 q126 q1916 rfl dX2_alikeIn_7 rfl rfl rfl rfl rfl (Nat.le_refl _) (Nat.le_refl _) ?_
  refine fk_if_ne' X 19 dX2_alikeIn_10 rfl hf (fun hf => ?_) (fun hf => ?_)
  · refine fk_iconst (v := 0) X dX2_alikeIn_19 rfl ?_
    refine fk_istore_n X [(3, tI 0), (0, tR a0), (1, tI a1), (2, tI a2)] dX2_alikeIn_20 rfl rfl ?_
    exact fk_cut' (w_X2_alikeIn_L21 X Y a0 a1 a2 m2 fk_fuel 0 hf) [1, 2, 3, 0] rfl
  · refine fk_aload_n X 0 dX2_alikeIn_13 rfl ?_
    refine fk_iconst (v := 1) X dX2_alikeIn_14 rfl ?_
    obtain ⟨u5, hq, hf⟩ := bI hf
    obtain ⟨z6, m7, hv, hf⟩ := bn2_eq hf
    refine fk_callV0I (ci := 1) (rest := []) X hq rfl (c_X2_no hv) n_X2_no q1672 q1674 qs64 q126 q1675 rfl dX2_alikeIn_15 rfl rfl rfl rfl rfl (Nat.le_refl _) (Nat.le_refl _) ?_
    cases hf
    exact fk_ireturn X Y dX2_alikeIn_18 rfl
/-! FigureKneeModel loudest (I)I -/
theorem n_X2_loudest : fk_N yX2_loudest 1 := ⟨by decide +kernel, by decide +kernel, by decide +kernel, by decide +kernel⟩
def f_X2_loudest_L29 (x0 : Option Nat) (x1 : Int32) (m0 : fk_M) : Nat → Int32 → Int32 → Option (Int32 × fk_M)
  | 0, _, _ => none
  | N + 1, x3, x4 =>
  (gR m0 x0 1 15).bind fun z1 => (aI m0 z1 0 2).bind fun z2 => if z2 ≤ x4 then (some (x3, m0)) else ((isO m0 x0 1).bind fun u3 => (f_X2_saysIn x0 x4 x1 m0).bind fun z4 => (isO m0 x0 1).bind fun u5 => (f_X2_saysIn x0 x3 x1 m0).bind fun z6 => f_X2_loudest_L29 x0 x1 m0 N (if z4 ≤ z6 then x3 else x4) (x4 + 1))
set_option maxHeartbeats 4000000 in
theorem w_X2_loudest_L29 {E : fk_E} {l : Launch} {G : fk_G} {b0 n : Nat} {r : Int32} {mF : fk_M} (X : fk_X E l G b0 "FigureKneeModel" "loudest" cX2_loudest 5 6 180 0 0) (Y : fk_Y E (some .int) (some (tI r)) n mF 0 0) (x0 : Option Nat) (x1 : Int32) (m0 : fk_M) : ∀ (N : Nat) (x3 : Int32) (x4 : Int32), f_X2_loudest_L29 x0 x1 m0 N x3 x4 = some (r, mF) → fk_W E 5 n m0 0 0 29 [(0, tR x0), (1, tI x1), (3, tI x3), (4, tI x4)] [] := by
  intro N
  induction N with
  | zero =>
    intro x3 x4 hf
    have hf : (none : Option (Int32 × fk_M)) = some _ := hf
    cases hf
  | succ N ih =>
    intro x3 x4 hf
    rw [f_X2_loudest_L29] at hf
    refine fk_iload X 3 dX2_loudest_29 rfl ?_
    refine fk_aload_n X 0 dX2_loudest_31 rfl ?_
    refine fk_getR' X fd_1_15 q1541 dX2_loudest_32 hf (fun z1 hf => ?_)
    refine fk_iconst (v := 2) X dX2_loudest_35 rfl ?_
    refine fk_iaload' X dX2_loudest_36 hf (fun z2 hf => ?_)
    refine fk_icmp_ge' X 65 dX2_loudest_37 rfl hf (fun hf => ?_) (fun hf => ?_)
    · refine fk_iload_n X 2 dX2_loudest_65 rfl ?_
      cases hf
      exact fk_ireturn X Y dX2_loudest_66 rfl
    · refine fk_aload_n X 0 dX2_loudest_40 rfl ?_
      refine fk_iload X 3 dX2_loudest_41 rfl ?_
      refine fk_iload_n X 1 dX2_loudest_43 rfl ?_
      obtain ⟨u3, hq, hf⟩ := bI hf
      obtain ⟨z4, hv, hf⟩ := bI hf
      refine fk_callV0I (ci := 1) (rest := []) X hq rfl (c_X2_saysIn hv) n_X2_saysIn q1840 q1842 qs91 q126 q1843 rfl dX2_loudest_44 rfl rfl rfl rfl rfl (Nat.le_refl _) (Nat.le_refl _) ?_
      refine fk_aload_n X 0 dX2_loudest_47 rfl ?_
      refine fk_iload_n X 2 dX2_loudest_48 rfl ?_
      refine fk_iload_n X 1 dX2_loudest_49 rfl ?_
      obtain ⟨u5, hq, hf⟩ := bI hf
      obtain ⟨z6, hv, hf⟩ := bI hf
      refine fk_callV0I (ci := 1) (rest := [tI z4]) X hq rfl (c_X2_saysIn hv) n_X2_saysIn q1840 q1842 qs91 q126 q1843 rfl dX2_loudest_50 rfl rfl rfl rfl rfl (Nat.le_refl _) (Nat.le_refl _) ?_
      have J1 : fk_W E 5 n m0 0 0 59 [(0, tR x0), (1, tI x1), (3, tI (if z4 ≤ z6 then x3 else x4)), (4, tI x4)] [] := by
        refine fk_iinc X 3 [(4, tI (x4 + 1)), (0, tR x0), (1, tI x1), (3, tI (if z4 ≤ z6 then x3 else x4))] dX2_loudest_59 rfl rfl rfl rfl ?_
        refine fk_goto X 29 dX2_loudest_62 rfl ?_
        exact fk_cut' (ih (if z4 ≤ z6 then x3 else x4) (x4 + 1)  hf) [1, 2, 3, 0] rfl
      refine fk_icmp_le X 59 dX2_loudest_53 rfl (fun hc2 => ?_) (fun hc2 => ?_)
      · simp only [if_pos hc2] at J1
        exact fk_cut' J1 [0, 1, 2, 3] rfl
      · refine fk_iload X 3 dX2_loudest_56 rfl ?_
        refine fk_istore_n X [(3, tI x4), (0, tR x0), (1, tI x1), (4, tI x4)] dX2_loudest_58 rfl rfl ?_
        simp only [if_neg hc2] at J1
        exact fk_cut' J1 [1, 2, 0, 3] rfl
def f_X2_loudest (a0 : Option Nat) (a1 : Int32) (m0 : fk_M) : Option (Int32 × fk_M) :=
  (isO m0 a0 1).bind fun u1 => (f_X2_good a0 m0).bind fun m2 => (gI m2 a0 1 14).bind fun z3 => (isO m2 a0 1).bind fun u4 => (f_X2_aheadWhy a0 z3 a1 m2).bind fun z5 => if z5 = 0 then (f_X2_loudest_L29 a0 a1 m2 fk_fuel 0 1) else ((isO m2 a0 1).bind fun u6 => bn2 (f_X2_no a0 z5 m2) fun z7 m8 => some (z7, m8))
set_option maxHeartbeats 4000000 in
theorem c_X2_loudest {l : Launch} {G : fk_G} {b0 : Nat} {n : Nat} {a0 : Option Nat} {a1 : Int32} {m0 : fk_M} {r : Int32} {mF : fk_M} (hf : f_X2_loudest a0 a1 m0 = some (r, mF)) : fk_Ct l G b0 yX2_loudest cX2_loudest 5 (some .int) 6 180 [tR a0, tI a1] n m0 (some (tI r)) n mF 0 0 := by
  refine fk_enter n_X2_loudest.1 rfl ?_
  intro E X0 Y
  have X : fk_X E l G b0 "FigureKneeModel" "loudest" cX2_loudest 5 6 180 0 0 := X0
  show fk_W E 5 n m0 0 0 0 [(0, tR a0), (1, tI a1)] []
  unfold f_X2_loudest at hf
  refine fk_aload_n X 0 dX2_loudest_0 rfl ?_
  obtain ⟨u1, hq, hf⟩ := bI hf
  obtain ⟨m2, hv, hf⟩ := bI hf
  refine fk_callV0V (ci := 1) (rest := []) X hq rfl (c_X2_good hv) n_X2_good q1665 q1667 qs63 q126 q1668 rfl dX2_loudest_1 rfl rfl rfl rfl rfl (Nat.le_refl _) (Nat.le_refl _) ?_
  refine fk_aload_n X 0 dX2_loudest_4 rfl ?_
  refine fk_aload_n X 0 dX2_loudest_5 rfl ?_
  refine fk_getI' X fd_1_14 q1540 dX2_loudest_6 hf (fun z3 hf => ?_)
  refine fk_iload_n X 1 dX2_loudest_9 rfl ?_
  obtain ⟨u4, hq, hf⟩ := bI hf
  obtain ⟨z5, hv, hf⟩ := bI hf
  refine fk_callV0I (ci := 1) (rest := []) X hq rfl (c_X2_aheadWhy hv) n_X2_aheadWhy q1832 q1834 qs89 q126 q1835 rfl dX2_loudest_10 rfl rfl rfl rfl rfl (Nat.le_refl _) (Nat.le_refl _) ?_
  refine fk_istore_n X [(2, tI z5), (0, tR a0), (1, tI a1)] dX2_loudest_13 rfl rfl ?_
  refine fk_iload_n X 0 dX2_loudest_14 rfl ?_
  refine fk_if_eq' X 24 dX2_loudest_15 rfl hf (fun hf => ?_) (fun hf => ?_)
  · refine fk_iconst (v := 0) X dX2_loudest_24 rfl ?_
    refine fk_istore_n X [(3, tI 0), (2, tI z5), (0, tR a0), (1, tI a1)] dX2_loudest_25 rfl rfl ?_
    refine fk_iconst (v := 1) X dX2_loudest_26 rfl ?_
    refine fk_istore X [(4, tI 1), (3, tI 0), (2, tI z5), (0, tR a0), (1, tI a1)] dX2_loudest_27 rfl rfl ?_
    exact fk_cut' (w_X2_loudest_L29 X Y a0 a1 m2 fk_fuel 0 1 hf) [3, 4, 1, 0] rfl
  · refine fk_aload_n X 1 dX2_loudest_18 rfl ?_
    refine fk_iload_n X 0 dX2_loudest_19 rfl ?_
    obtain ⟨u6, hq, hf⟩ := bI hf
    obtain ⟨z7, m8, hv, hf⟩ := bn2_eq hf
    refine fk_callV0I (ci := 1) (rest := []) X hq rfl (c_X2_no hv) n_X2_no q1672 q1674 qs64 q126 q1675 rfl dX2_loudest_20 rfl rfl rfl rfl rfl (Nat.le_refl _) (Nat.le_refl _) ?_
    cases hf
    exact fk_ireturn X Y dX2_loudest_23 rfl
/-! FigureKneeModel mastersIn (I)I -/
theorem n_X2_mastersIn : fk_N yX2_mastersIn 1 := ⟨by decide +kernel, by decide +kernel, by decide +kernel, by decide +kernel⟩
def f_X2_mastersIn_L4 (x0 : Option Nat) (x1 : Int32) (m : fk_M) : Nat → Int32 → Int32 → Option Int32
  | 0, _, _ => none
  | N + 1, x2, x3 =>
  (gR m x0 1 15).bind fun z1 => (aI m z1 0 2).bind fun z2 => if z2 ≤ x3 then (some x2) else ((isO m x0 1).bind fun u3 => (f_X2_saysIn x0 x3 x1 m).bind fun z4 => (isO m x0 1).bind fun u5 => (f_X2_isMore x0 z4 m).bind fun z6 => f_X2_mastersIn_L4 x0 x1 m N (x2 ||| (if z6 = 0 then (0 : Int32) else (i_shl 1 x3))) (x3 + 1))
set_option maxHeartbeats 4000000 in
theorem w_X2_mastersIn_L4 {E : fk_E} {l : Launch} {G : fk_G} {b0 n : Nat} {m : fk_M} {r : Int32} (X : fk_X E l G b0 "FigureKneeModel" "mastersIn" cX2_mastersIn 4 6 180 0 0) (Y : fk_Y E (some .int) (some (tI r)) n m 0 0) (x0 : Option Nat) (x1 : Int32) : ∀ (N : Nat) (x2 : Int32) (x3 : Int32), f_X2_mastersIn_L4 x0 x1 m N x2 x3 = some r → fk_W E 4 n m 0 0 4 [(0, tR x0), (1, tI x1), (2, tI x2), (3, tI x3)] [] := by
  intro N
  induction N with
  | zero =>
    intro x2 x3 hf
    have hf : (none : Option Int32) = some _ := hf
    cases hf
  | succ N ih =>
    intro x2 x3 hf
    rw [f_X2_mastersIn_L4] at hf
    refine fk_iload_n X 3 dX2_mastersIn_4 rfl ?_
    refine fk_aload_n X 0 dX2_mastersIn_5 rfl ?_
    refine fk_getR' X fd_1_15 q1541 dX2_mastersIn_6 hf (fun z1 hf => ?_)
    refine fk_iconst (v := 2) X dX2_mastersIn_9 rfl ?_
    refine fk_iaload' X dX2_mastersIn_10 hf (fun z2 hf => ?_)
    refine fk_icmp_ge' X 43 dX2_mastersIn_11 rfl hf (fun hf => ?_) (fun hf => ?_)
    · refine fk_iload_n X 2 dX2_mastersIn_43 rfl ?_
      cases hf
      exact fk_ireturn X Y dX2_mastersIn_44 rfl
    · refine fk_iload_n X 2 dX2_mastersIn_14 rfl ?_
      refine fk_aload_n X 0 dX2_mastersIn_15 rfl ?_
      refine fk_aload_n X 0 dX2_mastersIn_16 rfl ?_
      refine fk_iload_n X 3 dX2_mastersIn_17 rfl ?_
      refine fk_iload_n X 1 dX2_mastersIn_18 rfl ?_
      obtain ⟨u3, hq, hf⟩ := bI hf
      obtain ⟨z4, hv, hf⟩ := bI hf
      refine fk_callV0I (ci := 1) (rest := [tR x0, tI x2]) X hq rfl (c_X2_saysIn hv) n_X2_saysIn q1840 q1842 qs91 q126 q1843 rfl dX2_mastersIn_19 rfl rfl rfl rfl rfl (Nat.le_refl _) (Nat.le_refl _) ?_
      obtain ⟨u5, hq, hf⟩ := bI hf
      obtain ⟨z6, hv, hf⟩ := bI hf
      refine fk_callV0I (ci := 1) (rest := [tI x2]) X hq rfl (c_X2_isMore hv) n_X2_isMore q1824 q1826 qs88 q126 q1827 rfl dX2_mastersIn_22 rfl rfl rfl rfl rfl (Nat.le_refl _) (Nat.le_refl _) ?_
      have J1 : fk_W E 4 n m 0 0 35 [(0, tR x0), (1, tI x1), (3, tI x3)] [tI (if z6 = 0 then (0 : Int32) else (i_shl 1 x3)), tI x2] := by
        refine fk_ior X dX2_mastersIn_35 ?_
        refine fk_istore_n X [(2, tI (x2 ||| (if z6 = 0 then (0 : Int32) else (i_shl 1 x3)))), (0, tR x0), (1, tI x1), (3, tI x3)] dX2_mastersIn_36 rfl rfl ?_
        refine fk_iinc X 3 [(3, tI (x3 + 1)), (2, tI (x2 ||| (if z6 = 0 then (0 : Int32) else (i_shl 1 x3)))), (0, tR x0), (1, tI x1)] dX2_mastersIn_37 rfl rfl rfl rfl ?_
        refine fk_goto X 4 dX2_mastersIn_40 rfl ?_
        exact fk_cut' (ih (x2 ||| (if z6 = 0 then (0 : Int32) else (i_shl 1 x3))) (x3 + 1)  hf) [2, 3, 1, 0] rfl
      refine fk_if_eq X 34 dX2_mastersIn_25 rfl (fun hc2 => ?_) (fun hc2 => ?_)
      · refine fk_iconst (v := 0) X dX2_mastersIn_34 rfl ?_
        simp only [if_pos hc2] at J1
        exact fk_cut' J1 [0, 1, 3] rfl
      · refine fk_iconst (v := 1) X dX2_mastersIn_28 rfl ?_
        refine fk_iload_n X 3 dX2_mastersIn_29 rfl ?_
        refine fk_ishl X dX2_mastersIn_30 ?_
        refine fk_goto X 35 dX2_mastersIn_31 rfl ?_
        simp only [if_neg hc2] at J1
        exact fk_cut' J1 [0, 1, 3] rfl
def f_X2_mastersIn (a0 : Option Nat) (a1 : Int32) (m : fk_M) : Option Int32 :=
  f_X2_mastersIn_L4 a0 a1 m fk_fuel 0 0
set_option maxHeartbeats 4000000 in
theorem c_X2_mastersIn {l : Launch} {G : fk_G} {b0 : Nat} {n : Nat} {a0 : Option Nat} {a1 : Int32} {m : fk_M} {r : Int32} (hf : f_X2_mastersIn a0 a1 m = some r) : fk_Ct l G b0 yX2_mastersIn cX2_mastersIn 4 (some .int) 6 180 [tR a0, tI a1] n m (some (tI r)) n m 0 0 := by
  refine fk_enter n_X2_mastersIn.1 rfl ?_
  intro E X0 Y
  have X : fk_X E l G b0 "FigureKneeModel" "mastersIn" cX2_mastersIn 4 6 180 0 0 := X0
  show fk_W E 4 n m 0 0 0 [(0, tR a0), (1, tI a1)] []
  unfold f_X2_mastersIn at hf
  refine fk_iconst (v := 0) X dX2_mastersIn_0 rfl ?_
  refine fk_istore_n X [(2, tI 0), (0, tR a0), (1, tI a1)] dX2_mastersIn_1 rfl rfl ?_
  refine fk_iconst (v := 0) X dX2_mastersIn_2 rfl ?_
  refine fk_istore_n X [(3, tI 0), (2, tI 0), (0, tR a0), (1, tI a1)] dX2_mastersIn_3 rfl rfl ?_
  exact fk_cut' (w_X2_mastersIn_L4 X Y a0 a1 fk_fuel 0 0 hf) [2, 3, 1, 0] rfl
/-! FigureKneeModel masters (I)I -/
theorem n_X2_masters : fk_N yX2_masters 1 := ⟨by decide +kernel, by decide +kernel, by decide +kernel, by decide +kernel⟩
def f_X2_masters (a0 : Option Nat) (a1 : Int32) (m0 : fk_M) : Option (Int32 × fk_M) :=
  (isO m0 a0 1).bind fun u1 => (f_X2_good a0 m0).bind fun m2 => (gI m2 a0 1 14).bind fun z3 => (isO m2 a0 1).bind fun u4 => (f_X2_aheadWhy a0 z3 a1 m2).bind fun z5 => if z5 = 0 then ((isO m2 a0 1).bind fun u6 => (f_X2_mastersIn a0 a1 m2).bind fun z7 => some (z7, m2)) else ((isO m2 a0 1).bind fun u8 => bn2 (f_X2_no a0 z5 m2) fun z9 m10 => some (z9, m10))
set_option maxHeartbeats 4000000 in
theorem c_X2_masters {l : Launch} {G : fk_G} {b0 : Nat} {n : Nat} {a0 : Option Nat} {a1 : Int32} {m0 : fk_M} {r : Int32} {mF : fk_M} (hf : f_X2_masters a0 a1 m0 = some (r, mF)) : fk_Ct l G b0 yX2_masters cX2_masters 3 (some .int) 7 203 [tR a0, tI a1] n m0 (some (tI r)) n mF 0 0 := by
  refine fk_enter n_X2_masters.1 rfl ?_
  intro E X0 Y
  have X : fk_X E l G b0 "FigureKneeModel" "masters" cX2_masters 3 7 203 0 0 := X0
  show fk_W E 3 n m0 0 0 0 [(0, tR a0), (1, tI a1)] []
  unfold f_X2_masters at hf
  refine fk_aload_n X 0 dX2_masters_0 rfl ?_
  obtain ⟨u1, hq, hf⟩ := bI hf
  obtain ⟨m2, hv, hf⟩ := bI hf
  refine fk_callV0V (ci := 1) (rest := []) X hq rfl (c_X2_good hv) n_X2_good q1665 q1667 qs63 q126 q1668 rfl dX2_masters_1 rfl rfl rfl rfl rfl (Nat.le_refl _) (Nat.le_refl _) ?_
  refine fk_aload_n X 0 dX2_masters_4 rfl ?_
  refine fk_aload_n X 0 dX2_masters_5 rfl ?_
  refine fk_getI' X fd_1_14 q1540 dX2_masters_6 hf (fun z3 hf => ?_)
  refine fk_iload_n X 1 dX2_masters_9 rfl ?_
  obtain ⟨u4, hq, hf⟩ := bI hf
  obtain ⟨z5, hv, hf⟩ := bI hf
  refine fk_callV0I (ci := 1) (rest := []) X hq rfl (c_X2_aheadWhy hv) n_X2_aheadWhy q1832 q1834 qs89 q126 q1835 rfl dX2_masters_10 rfl rfl rfl rfl rfl (Nat.le_refl _) (Nat.le_refl _) ?_
  refine fk_istore_n X [(2, tI z5), (0, tR a0), (1, tI a1)] dX2_masters_13 rfl rfl ?_
  refine fk_iload_n X 0 dX2_masters_14 rfl ?_
  refine fk_if_eq' X 26 dX2_masters_15 rfl hf (fun hf => ?_) (fun hf => ?_)
  · refine fk_aload_n X 1 dX2_masters_26 rfl ?_
    refine fk_iload_n X 2 dX2_masters_27 rfl ?_
    obtain ⟨u6, hq, hf⟩ := bI hf
    obtain ⟨z7, hv, hf⟩ := bI hf
    refine fk_callV0I (ci := 1) (rest := []) X hq rfl (c_X2_mastersIn hv) n_X2_mastersIn q1925 q1927 qs100 q126 q1928 rfl dX2_masters_28 rfl rfl rfl rfl rfl (Nat.le_refl _) (Nat.le_refl _) ?_
    cases hf
    exact fk_ireturn X Y dX2_masters_31 rfl
  · refine fk_aload_n X 1 dX2_masters_18 rfl ?_
    refine fk_iload_n X 0 dX2_masters_19 rfl ?_
    obtain ⟨u8, hq, hf⟩ := bI hf
    obtain ⟨z9, m10, hv, hf⟩ := bn2_eq hf
    refine fk_callV0I (ci := 1) (rest := []) X hq rfl (c_X2_no hv) n_X2_no q1672 q1674 qs64 q126 q1675 rfl dX2_masters_20 rfl rfl rfl rfl rfl (Nat.le_refl _) (Nat.le_refl _) ?_
    refine fk_goto X 31 dX2_masters_23 rfl ?_
    cases hf
    exact fk_ireturn X Y dX2_masters_31 rfl
/-! FigureKneeModel overtakes (II)I -/
theorem n_X2_overtakes : fk_N yX2_overtakes 2 := ⟨by decide +kernel, by decide +kernel, by decide +kernel, by decide +kernel⟩
def f_X2_overtakes_L21 (x0 : Option Nat) (x1 : Int32) (x2 : Int32) (m0 : fk_M) : Nat → Int32 → Option (Int32 × fk_M)
  | 0, _ => none
  | N + 1, x3 =>
  if 60 < x3 then (some ((-2), m0)) else ((isO m0 x0 1).bind fun u1 => (f_X2_saysIn x0 x1 x3 m0).bind fun z2 => (isO m0 x0 1).bind fun u3 => (f_X2_saysIn x0 x2 x3 m0).bind fun z4 => if z2 ≤ z4 then (f_X2_overtakes_L21 x0 x1 x2 m0 N (x3 + 1)) else (some (x3, m0)))
set_option maxHeartbeats 4000000 in
theorem w_X2_overtakes_L21 {E : fk_E} {l : Launch} {G : fk_G} {b0 n : Nat} {r : Int32} {mF : fk_M} (X : fk_X E l G b0 "FigureKneeModel" "overtakes" cX2_overtakes 4 6 180 0 0) (Y : fk_Y E (some .int) (some (tI r)) n mF 0 0) (x0 : Option Nat) (x1 : Int32) (x2 : Int32) (m0 : fk_M) : ∀ (N : Nat) (x3 : Int32), f_X2_overtakes_L21 x0 x1 x2 m0 N x3 = some (r, mF) → fk_W E 4 n m0 0 0 21 [(0, tR x0), (1, tI x1), (2, tI x2), (3, tI x3)] [] := by
  intro N
  induction N with
  | zero =>
    intro x3 hf
    have hf : (none : Option (Int32 × fk_M)) = some _ := hf
    cases hf
  | succ N ih =>
    intro x3 hf
    rw [f_X2_overtakes_L21] at hf
    refine fk_iload_n X 3 dX2_overtakes_21 rfl ?_
    refine fk_bipush (v := 60) X dX2_overtakes_22 rfl ?_
    refine fk_icmp_gt' X 50 dX2_overtakes_24 rfl hf (fun hf => ?_) (fun hf => ?_)
    · refine fk_bipush (v := (-2)) X dX2_overtakes_50 rfl ?_
      cases hf
      exact fk_ireturn X Y dX2_overtakes_52 rfl
    · refine fk_aload_n X 0 dX2_overtakes_27 rfl ?_
      refine fk_iload_n X 1 dX2_overtakes_28 rfl ?_
      refine fk_iload_n X 3 dX2_overtakes_29 rfl ?_
      obtain ⟨u1, hq, hf⟩ := bI hf
      obtain ⟨z2, hv, hf⟩ := bI hf
      refine fk_callV0I (ci := 1) (rest := []) X hq rfl (c_X2_saysIn hv) n_X2_saysIn q1840 q1842 qs91 q126 q1843 rfl dX2_overtakes_30 rfl rfl rfl rfl rfl (Nat.le_refl _) (Nat.le_refl _) ?_
      refine fk_aload_n X 0 dX2_overtakes_33 rfl ?_
      refine fk_iload_n X 2 dX2_overtakes_34 rfl ?_
      refine fk_iload_n X 3 dX2_overtakes_35 rfl ?_
      obtain ⟨u3, hq, hf⟩ := bI hf
      obtain ⟨z4, hv, hf⟩ := bI hf
      refine fk_callV0I (ci := 1) (rest := [tI z2]) X hq rfl (c_X2_saysIn hv) n_X2_saysIn q1840 q1842 qs91 q126 q1843 rfl dX2_overtakes_36 rfl rfl rfl rfl rfl (Nat.le_refl _) (Nat.le_refl _) ?_
      refine fk_icmp_le' X 44 dX2_overtakes_39 rfl hf (fun hf => ?_) (fun hf => ?_)
      · refine fk_iinc X 3 [(3, tI (x3 + 1)), (0, tR x0), (1, tI x1), (2, tI x2)] dX2_overtakes_44 rfl rfl rfl rfl ?_
        refine fk_goto X 21 dX2_overtakes_47 rfl ?_
        exact fk_cut' (ih (x3 + 1)  hf) [1, 2, 3, 0] rfl
      · refine fk_iload_n X 3 dX2_overtakes_42 rfl ?_
        cases hf
        exact fk_ireturn X Y dX2_overtakes_43 rfl
def f_X2_overtakes (a0 : Option Nat) (a1 : Int32) (a2 : Int32) (m0 : fk_M) : Option (Int32 × fk_M) :=
  (isO m0 a0 1).bind fun u1 => (f_X2_good a0 m0).bind fun m2 => (isO m2 a0 1).bind fun u3 => (f_X2_areTwo a0 a1 a2 m2).bind fun z4 => if z4 = 0 then ((isO m2 a0 1).bind fun u5 => bn2 (f_X2_no a0 1 m2) fun z6 m7 => some (z6, m7)) else (f_X2_overtakes_L21 a0 a1 a2 m2 fk_fuel 0)
set_option maxHeartbeats 4000000 in
theorem c_X2_overtakes {l : Launch} {G : fk_G} {b0 : Nat} {n : Nat} {a0 : Option Nat} {a1 : Int32} {a2 : Int32} {m0 : fk_M} {r : Int32} {mF : fk_M} (hf : f_X2_overtakes a0 a1 a2 m0 = some (r, mF)) : fk_Ct l G b0 yX2_overtakes cX2_overtakes 4 (some .int) 6 180 [tR a0, tI a1, tI a2] n m0 (some (tI r)) n mF 0 0 := by
  refine fk_enter n_X2_overtakes.1 rfl ?_
  intro E X0 Y
  have X : fk_X E l G b0 "FigureKneeModel" "overtakes" cX2_overtakes 4 6 180 0 0 := X0
  show fk_W E 4 n m0 0 0 0 [(0, tR a0), (1, tI a1), (2, tI a2)] []
  unfold f_X2_overtakes at hf
  refine fk_aload_n X 0 dX2_overtakes_0 rfl ?_
  obtain ⟨u1, hq, hf⟩ := bI hf
  obtain ⟨m2, hv, hf⟩ := bI hf
  refine fk_callV0V (ci := 1) (rest := []) X hq rfl (c_X2_good hv) n_X2_good q1665 q1667 qs63 q126 q1668 rfl dX2_overtakes_1 rfl rfl rfl rfl rfl (Nat.le_refl _) (Nat.le_refl _) ?_
  refine fk_aload_n X 0 dX2_overtakes_4 rfl ?_
  refine fk_iload_n X 1 dX2_overtakes_5 rfl ?_
  refine fk_iload_n X 2 dX2_overtakes_6 rfl ?_
  obtain ⟨u3, hq, hf⟩ := bI hf
  obtain ⟨z4, hv, hf⟩ := bI hf
  refine fk_callV0I (ci := 1) (rest := []) X hq rfl (c_X2_areTwo hv) n_X2_areTwo q1913 q1915 qs99 q126 q1916 rfl dX2_overtakes_7 rfl rfl rfl rfl rfl (Nat.le_refl _) (Nat.le_refl _) ?_
  refine fk_if_ne' X 19 dX2_overtakes_10 rfl hf (fun hf => ?_) (fun hf => ?_)
  · refine fk_iconst (v := 0) X dX2_overtakes_19 rfl ?_
    refine fk_istore_n X [(3, tI 0), (0, tR a0), (1, tI a1), (2, tI a2)] dX2_overtakes_20 rfl rfl ?_
    exact fk_cut' (w_X2_overtakes_L21 X Y a0 a1 a2 m2 fk_fuel 0 hf) [1, 2, 3, 0] rfl
  · refine fk_aload_n X 0 dX2_overtakes_13 rfl ?_
    refine fk_iconst (v := 1) X dX2_overtakes_14 rfl ?_
    obtain ⟨u5, hq, hf⟩ := bI hf
    obtain ⟨z6, m7, hv, hf⟩ := bn2_eq hf
    refine fk_callV0I (ci := 1) (rest := []) X hq rfl (c_X2_no hv) n_X2_no q1672 q1674 qs64 q126 q1675 rfl dX2_overtakes_15 rfl rfl rfl rfl rfl (Nat.le_refl _) (Nat.le_refl _) ?_
    cases hf
    exact fk_ireturn X Y dX2_overtakes_18 rfl
/-! FigureKneeModel widest (I)I -/
theorem n_X2_widest : fk_N yX2_widest 1 := ⟨by decide +kernel, by decide +kernel, by decide +kernel, by decide +kernel⟩
def f_X2_widest_L50 (R33 : Int32 → Int32 → Int32 → Option (Int32 × fk_M)) (x0 : Option Nat) (x1 : Int32) (x5 : Int32) (m0 : fk_M) : Nat → Int32 → Int32 → Int32 → Option (Int32 × fk_M)
  | 0, _, _, _ => none
  | N + 1, x3, x4, x6 =>
  (gR m0 x0 1 15).bind fun z1 => (aI m0 z1 0 2).bind fun z2 => if z2 ≤ x6 then (R33 x3 x4 (x5 + 1)) else ((isO m0 x0 1).bind fun u3 => (f_X2_saysIn x0 x5 x1 m0).bind fun z4 => (isO m0 x0 1).bind fun u5 => (f_X2_saysIn x0 x6 x1 m0).bind fun z6 => f_X2_widest_L50 R33 x0 x1 x5 m0 N (if x4 < (if 0 ≤ (z4 - z6) then (z4 - z6) else (-(z4 - z6))) then ((10 * x5) + x6) else x3) (if x4 < (if 0 ≤ (z4 - z6) then (z4 - z6) else (-(z4 - z6))) then (if 0 ≤ (z4 - z6) then (z4 - z6) else (-(z4 - z6))) else x4) (x6 + 1))
set_option maxHeartbeats 4000000 in
theorem w_X2_widest_L50 {E : fk_E} {l : Launch} {G : fk_G} {b0 n : Nat} {r : Int32} {mF : fk_M} (X : fk_X E l G b0 "FigureKneeModel" "widest" cX2_widest 8 6 180 0 0) (Y : fk_Y E (some .int) (some (tI r)) n mF 0 0) (x0 : Option Nat) (x1 : Int32) (x5 : Int32) (m0 : fk_M) {R33 : Int32 → Int32 → Int32 → Option (Int32 × fk_M)} (hR33 : ∀ (v3 : Int32) (v4 : Int32) (v5 : Int32), R33 v3 v4 v5 = some (r, mF) → fk_W E 8 n m0 0 0 33 [(0, tR x0), (1, tI x1), (3, tI v3), (4, tI v4), (5, tI v5)] []) : ∀ (N : Nat) (x3 : Int32) (x4 : Int32) (x6 : Int32), f_X2_widest_L50 R33 x0 x1 x5 m0 N x3 x4 x6 = some (r, mF) → fk_W E 8 n m0 0 0 50 [(0, tR x0), (1, tI x1), (3, tI x3), (4, tI x4), (5, tI x5), (6, tI x6)] [] := by
  intro N
  induction N with
  | zero =>
    intro x3 x4 x6 hf
    have hf : (none : Option (Int32 × fk_M)) = some _ := hf
    cases hf
  | succ N ih =>
    intro x3 x4 x6 hf
    rw [f_X2_widest_L50] at hf
    refine fk_iload X 5 dX2_widest_50 rfl ?_
    refine fk_aload_n X 0 dX2_widest_52 rfl ?_
    refine fk_getR' X fd_1_15 q1541 dX2_widest_53 hf (fun z1 hf => ?_)
    refine fk_iconst (v := 2) X dX2_widest_56 rfl ?_
    refine fk_iaload' X dX2_widest_57 hf (fun z2 hf => ?_)
    refine fk_icmp_ge' X 117 dX2_widest_58 rfl hf (fun hf => ?_) (fun hf => ?_)
    · refine fk_iinc X 4 [(5, tI (x5 + 1)), (0, tR x0), (1, tI x1), (3, tI x3), (4, tI x4), (6, tI x6)] dX2_widest_117 rfl rfl rfl rfl ?_
      refine fk_goto X 33 dX2_widest_120 rfl ?_
      exact fk_cut' (hR33 x3 x4 (x5 + 1)  hf) [1, 2, 3, 4, 0] rfl
    · refine fk_aload_n X 0 dX2_widest_61 rfl ?_
      refine fk_iload X 4 dX2_widest_62 rfl ?_
      refine fk_iload_n X 1 dX2_widest_64 rfl ?_
      obtain ⟨u3, hq, hf⟩ := bI hf
      obtain ⟨z4, hv, hf⟩ := bI hf
      refine fk_callV0I (ci := 1) (rest := []) X hq rfl (c_X2_saysIn hv) n_X2_saysIn q1840 q1842 qs91 q126 q1843 rfl dX2_widest_65 rfl rfl rfl rfl rfl (Nat.le_refl _) (Nat.le_refl _) ?_
      refine fk_aload_n X 0 dX2_widest_68 rfl ?_
      refine fk_iload X 5 dX2_widest_69 rfl ?_
      refine fk_iload_n X 1 dX2_widest_71 rfl ?_
      obtain ⟨u5, hq, hf⟩ := bI hf
      obtain ⟨z6, hv, hf⟩ := bI hf
      refine fk_callV0I (ci := 1) (rest := [tI z4]) X hq rfl (c_X2_saysIn hv) n_X2_saysIn q1840 q1842 qs91 q126 q1843 rfl dX2_widest_72 rfl rfl rfl rfl rfl (Nat.le_refl _) (Nat.le_refl _) ?_
      refine fk_isub X dX2_widest_75 ?_
      refine fk_istore X [(7, tI (z4 - z6)), (0, tR x0), (1, tI x1), (3, tI x3), (4, tI x4), (5, tI x5), (6, tI x6)] dX2_widest_76 rfl rfl ?_
      refine fk_iload X 0 dX2_widest_78 rfl ?_
      have J1 : fk_W E 8 n m0 0 0 88 [(7, tI (if 0 ≤ (z4 - z6) then (z4 - z6) else (-(z4 - z6)))), (0, tR x0), (1, tI x1), (3, tI x3), (4, tI x4), (5, tI x5), (6, tI x6)] [] := by
        refine fk_iload X 0 dX2_widest_88 rfl ?_
        refine fk_iload X 4 dX2_widest_90 rfl ?_
        have J2 : fk_W E 8 n m0 0 0 111 [(4, tI (if x4 < (if 0 ≤ (z4 - z6) then (z4 - z6) else (-(z4 - z6))) then (if 0 ≤ (z4 - z6) then (z4 - z6) else (-(z4 - z6))) else x4)), (3, tI (if x4 < (if 0 ≤ (z4 - z6) then (z4 - z6) else (-(z4 - z6))) then ((10 * x5) + x6) else x3)), (0, tR x0), (1, tI x1), (5, tI x5), (6, tI x6)] [] := by
          refine fk_iinc X 5 [(6, tI (x6 + 1)), (4, tI (if x4 < (if 0 ≤ (z4 - z6) then (z4 - z6) else (-(z4 - z6))) then (if 0 ≤ (z4 - z6) then (z4 - z6) else (-(z4 - z6))) else x4)), (3, tI (if x4 < (if 0 ≤ (z4 - z6) then (z4 - z6) else (-(z4 - z6))) then ((10 * x5) + x6) else x3)), (0, tR x0), (1, tI x1), (5, tI x5)] dX2_widest_111 rfl rfl rfl rfl ?_
          refine fk_goto X 50 dX2_widest_114 rfl ?_
          exact fk_cut' (ih (if x4 < (if 0 ≤ (z4 - z6) then (z4 - z6) else (-(z4 - z6))) then ((10 * x5) + x6) else x3) (if x4 < (if 0 ≤ (z4 - z6) then (z4 - z6) else (-(z4 - z6))) then (if 0 ≤ (z4 - z6) then (z4 - z6) else (-(z4 - z6))) else x4) (x6 + 1)  hf) [3, 4, 2, 1, 5, 0] rfl
        refine fk_icmp_gt X 98 dX2_widest_92 rfl (fun hc3 => ?_) (fun hc3 => ?_)
        · refine fk_bipush (v := 10) X dX2_widest_98 rfl ?_
          refine fk_iload X 5 dX2_widest_100 rfl ?_
          refine fk_imul X dX2_widest_102 ?_
          refine fk_iload X 6 dX2_widest_103 rfl ?_
          refine fk_iadd X dX2_widest_105 ?_
          refine fk_istore_n X [(3, tI ((10 * x5) + x6)), (7, tI (if 0 ≤ (z4 - z6) then (z4 - z6) else (-(z4 - z6)))), (0, tR x0), (1, tI x1), (4, tI x4), (5, tI x5), (6, tI x6)] dX2_widest_106 rfl rfl ?_
          refine fk_iload X 1 dX2_widest_107 rfl ?_
          refine fk_istore X [(4, tI (if 0 ≤ (z4 - z6) then (z4 - z6) else (-(z4 - z6)))), (3, tI ((10 * x5) + x6)), (7, tI (if 0 ≤ (z4 - z6) then (z4 - z6) else (-(z4 - z6)))), (0, tR x0), (1, tI x1), (5, tI x5), (6, tI x6)] dX2_widest_109 rfl rfl ?_
          simp only [if_pos hc3] at J2
          exact fk_cut' J2 [0, 1, 3, 4, 5, 6] rfl
        · refine fk_goto X 111 dX2_widest_95 rfl ?_
          simp only [if_neg hc3] at J2
          exact fk_cut' J2 [4, 3, 1, 2, 5, 6] rfl
      refine fk_if_ge X 88 dX2_widest_80 rfl (fun hc4 => ?_) (fun hc4 => ?_)
      · simp only [if_pos hc4] at J1
        exact fk_cut' J1 [0, 1, 2, 3, 4, 5, 6] rfl
      · refine fk_iload X 0 dX2_widest_83 rfl ?_
        refine fk_ineg X dX2_widest_85 ?_
        refine fk_istore X [(7, tI (-(z4 - z6))), (0, tR x0), (1, tI x1), (3, tI x3), (4, tI x4), (5, tI x5), (6, tI x6)] dX2_widest_86 rfl rfl ?_
        simp only [if_neg hc4] at J1
        exact fk_cut' J1 [0, 1, 2, 3, 4, 5, 6] rfl
def f_X2_widest_L33 (x0 : Option Nat) (x1 : Int32) (m0 : fk_M) : Nat → Int32 → Int32 → Int32 → Option (Int32 × fk_M)
  | 0, _, _, _ => none
  | N + 1, x3, x4, x5 =>
  (gR m0 x0 1 15).bind fun z1 => (aI m0 z1 0 2).bind fun z2 => if z2 ≤ x5 then (some (x3, m0)) else (f_X2_widest_L50 (f_X2_widest_L33 x0 x1 m0 N) x0 x1 x5 m0 fk_fuel x3 x4 (x5 + 1))
set_option maxHeartbeats 4000000 in
theorem w_X2_widest_L33 {E : fk_E} {l : Launch} {G : fk_G} {b0 n : Nat} {r : Int32} {mF : fk_M} (X : fk_X E l G b0 "FigureKneeModel" "widest" cX2_widest 8 6 180 0 0) (Y : fk_Y E (some .int) (some (tI r)) n mF 0 0) (x0 : Option Nat) (x1 : Int32) (m0 : fk_M) : ∀ (N : Nat) (x3 : Int32) (x4 : Int32) (x5 : Int32), f_X2_widest_L33 x0 x1 m0 N x3 x4 x5 = some (r, mF) → fk_W E 8 n m0 0 0 33 [(0, tR x0), (1, tI x1), (3, tI x3), (4, tI x4), (5, tI x5)] [] := by
  intro N
  induction N with
  | zero =>
    intro x3 x4 x5 hf
    have hf : (none : Option (Int32 × fk_M)) = some _ := hf
    cases hf
  | succ N ih =>
    intro x3 x4 x5 hf
    rw [f_X2_widest_L33] at hf
    refine fk_iload X 4 dX2_widest_33 rfl ?_
    refine fk_aload_n X 0 dX2_widest_35 rfl ?_
    refine fk_getR' X fd_1_15 q1541 dX2_widest_36 hf (fun z1 hf => ?_)
    refine fk_iconst (v := 2) X dX2_widest_39 rfl ?_
    refine fk_iaload' X dX2_widest_40 hf (fun z2 hf => ?_)
    refine fk_icmp_ge' X 123 dX2_widest_41 rfl hf (fun hf => ?_) (fun hf => ?_)
    · refine fk_iload_n X 2 dX2_widest_123 rfl ?_
      cases hf
      exact fk_ireturn X Y dX2_widest_124 rfl
    · refine fk_iload X 4 dX2_widest_44 rfl ?_
      refine fk_iconst (v := 1) X dX2_widest_46 rfl ?_
      refine fk_iadd X dX2_widest_47 ?_
      refine fk_istore X [(6, tI (x5 + 1)), (0, tR x0), (1, tI x1), (3, tI x3), (4, tI x4), (5, tI x5)] dX2_widest_48 rfl rfl ?_
      exact fk_cut' (w_X2_widest_L50 X Y x0 x1 x5 m0 ih fk_fuel x3 x4 (x5 + 1) hf) [1, 2, 3, 4, 5, 0] rfl
def f_X2_widest (a0 : Option Nat) (a1 : Int32) (m0 : fk_M) : Option (Int32 × fk_M) :=
  (isO m0 a0 1).bind fun u1 => (f_X2_good a0 m0).bind fun m2 => (gI m2 a0 1 14).bind fun z3 => (isO m2 a0 1).bind fun u4 => (f_X2_aheadWhy a0 z3 a1 m2).bind fun z5 => if z5 = 0 then (f_X2_widest_L33 a0 a1 m2 fk_fuel (-2) (-1) 0) else ((isO m2 a0 1).bind fun u6 => bn2 (f_X2_no a0 z5 m2) fun z7 m8 => some (z7, m8))
set_option maxHeartbeats 4000000 in
theorem c_X2_widest {l : Launch} {G : fk_G} {b0 : Nat} {n : Nat} {a0 : Option Nat} {a1 : Int32} {m0 : fk_M} {r : Int32} {mF : fk_M} (hf : f_X2_widest a0 a1 m0 = some (r, mF)) : fk_Ct l G b0 yX2_widest cX2_widest 8 (some .int) 6 180 [tR a0, tI a1] n m0 (some (tI r)) n mF 0 0 := by
  refine fk_enter n_X2_widest.1 rfl ?_
  intro E X0 Y
  have X : fk_X E l G b0 "FigureKneeModel" "widest" cX2_widest 8 6 180 0 0 := X0
  show fk_W E 8 n m0 0 0 0 [(0, tR a0), (1, tI a1)] []
  unfold f_X2_widest at hf
  refine fk_aload_n X 0 dX2_widest_0 rfl ?_
  obtain ⟨u1, hq, hf⟩ := bI hf
  obtain ⟨m2, hv, hf⟩ := bI hf
  refine fk_callV0V (ci := 1) (rest := []) X hq rfl (c_X2_good hv) n_X2_good q1665 q1667 qs63 q126 q1668 rfl dX2_widest_1 rfl rfl rfl rfl rfl (Nat.le_refl _) (Nat.le_refl _) ?_
  refine fk_aload_n X 0 dX2_widest_4 rfl ?_
  refine fk_aload_n X 0 dX2_widest_5 rfl ?_
  refine fk_getI' X fd_1_14 q1540 dX2_widest_6 hf (fun z3 hf => ?_)
  refine fk_iload_n X 1 dX2_widest_9 rfl ?_
  obtain ⟨u4, hq, hf⟩ := bI hf
  obtain ⟨z5, hv, hf⟩ := bI hf
  refine fk_callV0I (ci := 1) (rest := []) X hq rfl (c_X2_aheadWhy hv) n_X2_aheadWhy q1832 q1834 qs89 q126 q1835 rfl dX2_widest_10 rfl rfl rfl rfl rfl (Nat.le_refl _) (Nat.le_refl _) ?_
  refine fk_istore_n X [(2, tI z5), (0, tR a0), (1, tI a1)] dX2_widest_13 rfl rfl ?_
  refine fk_iload_n X 0 dX2_widest_14 rfl ?_
  refine fk_if_eq' X 24 dX2_widest_15 rfl hf (fun hf => ?_) (fun hf => ?_)
  · refine fk_bipush (v := (-2)) X dX2_widest_24 rfl ?_
    refine fk_istore_n X [(3, tI (-2)), (2, tI z5), (0, tR a0), (1, tI a1)] dX2_widest_26 rfl rfl ?_
    refine fk_iconst (v := (-1)) X dX2_widest_27 rfl ?_
    refine fk_istore X [(4, tI (-1)), (3, tI (-2)), (2, tI z5), (0, tR a0), (1, tI a1)] dX2_widest_28 rfl rfl ?_
    refine fk_iconst (v := 0) X dX2_widest_30 rfl ?_
    refine fk_istore X [(5, tI 0), (4, tI (-1)), (3, tI (-2)), (2, tI z5), (0, tR a0), (1, tI a1)] dX2_widest_31 rfl rfl ?_
    exact fk_cut' (w_X2_widest_L33 X Y a0 a1 m2 fk_fuel (-2) (-1) 0 hf) [4, 5, 2, 1, 0] rfl
  · refine fk_aload_n X 1 dX2_widest_18 rfl ?_
    refine fk_iload_n X 0 dX2_widest_19 rfl ?_
    obtain ⟨u6, hq, hf⟩ := bI hf
    obtain ⟨z7, m8, hv, hf⟩ := bn2_eq hf
    refine fk_callV0I (ci := 1) (rest := []) X hq rfl (c_X2_no hv) n_X2_no q1672 q1674 qs64 q126 q1675 rfl dX2_widest_20 rfl rfl rfl rfl rfl (Nat.le_refl _) (Nat.le_refl _) ?_
    cases hf
    exact fk_ireturn X Y dX2_widest_23 rfl
/-! FigureKneeModel sumAll (I)I -/
theorem n_X2_sumAll : fk_N yX2_sumAll 1 := ⟨by decide +kernel, by decide +kernel, by decide +kernel, by decide +kernel⟩
def f_X2_sumAll_L29 (x0 : Option Nat) (x1 : Int32) (m0 : fk_M) : Nat → Int32 → Int32 → Option (Int32 × fk_M)
  | 0, _, _ => none
  | N + 1, x3, x4 =>
  (gR m0 x0 1 15).bind fun z1 => (aI m0 z1 0 2).bind fun z2 => if z2 ≤ x4 then (some (x3, m0)) else ((isO m0 x0 1).bind fun u3 => (f_X2_saysIn x0 x4 x1 m0).bind fun z4 => f_X2_sumAll_L29 x0 x1 m0 N (x3 + z4) (x4 + 1))
set_option maxHeartbeats 4000000 in
theorem w_X2_sumAll_L29 {E : fk_E} {l : Launch} {G : fk_G} {b0 n : Nat} {r : Int32} {mF : fk_M} (X : fk_X E l G b0 "FigureKneeModel" "sumAll" cX2_sumAll 5 6 180 0 0) (Y : fk_Y E (some .int) (some (tI r)) n mF 0 0) (x0 : Option Nat) (x1 : Int32) (m0 : fk_M) : ∀ (N : Nat) (x3 : Int32) (x4 : Int32), f_X2_sumAll_L29 x0 x1 m0 N x3 x4 = some (r, mF) → fk_W E 5 n m0 0 0 29 [(0, tR x0), (1, tI x1), (3, tI x3), (4, tI x4)] [] := by
  intro N
  induction N with
  | zero =>
    intro x3 x4 hf
    have hf : (none : Option (Int32 × fk_M)) = some _ := hf
    cases hf
  | succ N ih =>
    intro x3 x4 hf
    rw [f_X2_sumAll_L29] at hf
    refine fk_iload X 3 dX2_sumAll_29 rfl ?_
    refine fk_aload_n X 0 dX2_sumAll_31 rfl ?_
    refine fk_getR' X fd_1_15 q1541 dX2_sumAll_32 hf (fun z1 hf => ?_)
    refine fk_iconst (v := 2) X dX2_sumAll_35 rfl ?_
    refine fk_iaload' X dX2_sumAll_36 hf (fun z2 hf => ?_)
    refine fk_icmp_ge' X 56 dX2_sumAll_37 rfl hf (fun hf => ?_) (fun hf => ?_)
    · refine fk_iload_n X 2 dX2_sumAll_56 rfl ?_
      cases hf
      exact fk_ireturn X Y dX2_sumAll_57 rfl
    · refine fk_iload_n X 2 dX2_sumAll_40 rfl ?_
      refine fk_aload_n X 0 dX2_sumAll_41 rfl ?_
      refine fk_iload X 3 dX2_sumAll_42 rfl ?_
      refine fk_iload_n X 1 dX2_sumAll_44 rfl ?_
      obtain ⟨u3, hq, hf⟩ := bI hf
      obtain ⟨z4, hv, hf⟩ := bI hf
      refine fk_callV0I (ci := 1) (rest := [tI x3]) X hq rfl (c_X2_saysIn hv) n_X2_saysIn q1840 q1842 qs91 q126 q1843 rfl dX2_sumAll_45 rfl rfl rfl rfl rfl (Nat.le_refl _) (Nat.le_refl _) ?_
      refine fk_iadd X dX2_sumAll_48 ?_
      refine fk_istore_n X [(3, tI (x3 + z4)), (0, tR x0), (1, tI x1), (4, tI x4)] dX2_sumAll_49 rfl rfl ?_
      refine fk_iinc X 3 [(4, tI (x4 + 1)), (3, tI (x3 + z4)), (0, tR x0), (1, tI x1)] dX2_sumAll_50 rfl rfl rfl rfl ?_
      refine fk_goto X 29 dX2_sumAll_53 rfl ?_
      exact fk_cut' (ih (x3 + z4) (x4 + 1)  hf) [2, 3, 1, 0] rfl
def f_X2_sumAll (a0 : Option Nat) (a1 : Int32) (m0 : fk_M) : Option (Int32 × fk_M) :=
  (isO m0 a0 1).bind fun u1 => (f_X2_good a0 m0).bind fun m2 => (gI m2 a0 1 14).bind fun z3 => (isO m2 a0 1).bind fun u4 => (f_X2_aheadWhy a0 z3 a1 m2).bind fun z5 => if z5 = 0 then (f_X2_sumAll_L29 a0 a1 m2 fk_fuel 0 0) else ((isO m2 a0 1).bind fun u6 => bn2 (f_X2_no a0 z5 m2) fun z7 m8 => some (z7, m8))
set_option maxHeartbeats 4000000 in
theorem c_X2_sumAll {l : Launch} {G : fk_G} {b0 : Nat} {n : Nat} {a0 : Option Nat} {a1 : Int32} {m0 : fk_M} {r : Int32} {mF : fk_M} (hf : f_X2_sumAll a0 a1 m0 = some (r, mF)) : fk_Ct l G b0 yX2_sumAll cX2_sumAll 5 (some .int) 6 180 [tR a0, tI a1] n m0 (some (tI r)) n mF 0 0 := by
  refine fk_enter n_X2_sumAll.1 rfl ?_
  intro E X0 Y
  have X : fk_X E l G b0 "FigureKneeModel" "sumAll" cX2_sumAll 5 6 180 0 0 := X0
  show fk_W E 5 n m0 0 0 0 [(0, tR a0), (1, tI a1)] []
  unfold f_X2_sumAll at hf
  refine fk_aload_n X 0 dX2_sumAll_0 rfl ?_
  obtain ⟨u1, hq, hf⟩ := bI hf
  obtain ⟨m2, hv, hf⟩ := bI hf
  refine fk_callV0V (ci := 1) (rest := []) X hq rfl (c_X2_good hv) n_X2_good q1665 q1667 qs63 q126 q1668 rfl dX2_sumAll_1 rfl rfl rfl rfl rfl (Nat.le_refl _) (Nat.le_refl _) ?_
  refine fk_aload_n X 0 dX2_sumAll_4 rfl ?_
  refine fk_aload_n X 0 dX2_sumAll_5 rfl ?_
  refine fk_getI' X fd_1_14 q1540 dX2_sumAll_6 hf (fun z3 hf => ?_)
  refine fk_iload_n X 1 dX2_sumAll_9 rfl ?_
  obtain ⟨u4, hq, hf⟩ := bI hf
  obtain ⟨z5, hv, hf⟩ := bI hf
  refine fk_callV0I (ci := 1) (rest := []) X hq rfl (c_X2_aheadWhy hv) n_X2_aheadWhy q1832 q1834 qs89 q126 q1835 rfl dX2_sumAll_10 rfl rfl rfl rfl rfl (Nat.le_refl _) (Nat.le_refl _) ?_
  refine fk_istore_n X [(2, tI z5), (0, tR a0), (1, tI a1)] dX2_sumAll_13 rfl rfl ?_
  refine fk_iload_n X 0 dX2_sumAll_14 rfl ?_
  refine fk_if_eq' X 24 dX2_sumAll_15 rfl hf (fun hf => ?_) (fun hf => ?_)
  · refine fk_iconst (v := 0) X dX2_sumAll_24 rfl ?_
    refine fk_istore_n X [(3, tI 0), (2, tI z5), (0, tR a0), (1, tI a1)] dX2_sumAll_25 rfl rfl ?_
    refine fk_iconst (v := 0) X dX2_sumAll_26 rfl ?_
    refine fk_istore X [(4, tI 0), (3, tI 0), (2, tI z5), (0, tR a0), (1, tI a1)] dX2_sumAll_27 rfl rfl ?_
    exact fk_cut' (w_X2_sumAll_L29 X Y a0 a1 m2 fk_fuel 0 0 hf) [3, 4, 1, 0] rfl
  · refine fk_aload_n X 1 dX2_sumAll_18 rfl ?_
    refine fk_iload_n X 0 dX2_sumAll_19 rfl ?_
    obtain ⟨u6, hq, hf⟩ := bI hf
    obtain ⟨z7, m8, hv, hf⟩ := bn2_eq hf
    refine fk_callV0I (ci := 1) (rest := []) X hq rfl (c_X2_no hv) n_X2_no q1672 q1674 qs64 q126 q1675 rfl dX2_sumAll_20 rfl rfl rfl rfl rfl (Nat.le_refl _) (Nat.le_refl _) ?_
    cases hf
    exact fk_ireturn X Y dX2_sumAll_23 rfl
/-! FigureKneeModel bestEvery (II)I -/
theorem n_X2_bestEvery : fk_N yX2_bestEvery 2 := ⟨by decide +kernel, by decide +kernel, by decide +kernel, by decide +kernel⟩
def f_X2_bestEvery_L5 (x0 : Option Nat) (x1 : Int32) (x2 : Int32) (m : fk_M) : Nat → Int32 → Int32 → Option Int32
  | 0, _, _ => none
  | N + 1, x3, x4 =>
  if 9 < x4 then (some x3) else ((gR m x0 1 19).bind fun z1 => (aI m z1 0 (5 + x1)).bind fun z2 => (isO m x0 1).bind fun u3 => (f_X2_saysBy x0 x1 x2 z2 x4 m).bind fun z4 => (gR m x0 1 19).bind fun z5 => (aI m z5 0 (5 + x1)).bind fun z6 => (isO m x0 1).bind fun u7 => (f_X2_saysBy x0 x1 x2 z6 x3 m).bind fun z8 => f_X2_bestEvery_L5 x0 x1 x2 m N (if z4 ≤ z8 then x3 else x4) (x4 + 1))
set_option maxHeartbeats 4000000 in
theorem w_X2_bestEvery_L5 {E : fk_E} {l : Launch} {G : fk_G} {b0 n : Nat} {m : fk_M} {r : Int32} (X : fk_X E l G b0 "FigureKneeModel" "bestEvery" cX2_bestEvery 5 5 158 0 0) (Y : fk_Y E (some .int) (some (tI r)) n m 0 0) (x0 : Option Nat) (x1 : Int32) (x2 : Int32) : ∀ (N : Nat) (x3 : Int32) (x4 : Int32), f_X2_bestEvery_L5 x0 x1 x2 m N x3 x4 = some r → fk_W E 5 n m 0 0 5 [(0, tR x0), (1, tI x1), (2, tI x2), (3, tI x3), (4, tI x4)] [] := by
  intro N
  induction N with
  | zero =>
    intro x3 x4 hf
    have hf : (none : Option Int32) = some _ := hf
    cases hf
  | succ N ih =>
    intro x3 x4 hf
    rw [f_X2_bestEvery_L5] at hf
    refine fk_iload X 4 dX2_bestEvery_5 rfl ?_
    refine fk_bipush (v := 9) X dX2_bestEvery_7 rfl ?_
    refine fk_icmp_gt' X 55 dX2_bestEvery_9 rfl hf (fun hf => ?_) (fun hf => ?_)
    · refine fk_iload_n X 3 dX2_bestEvery_55 rfl ?_
      cases hf
      exact fk_ireturn X Y dX2_bestEvery_56 rfl
    · refine fk_aload_n X 0 dX2_bestEvery_12 rfl ?_
      refine fk_iload_n X 1 dX2_bestEvery_13 rfl ?_
      refine fk_iload_n X 2 dX2_bestEvery_14 rfl ?_
      refine fk_aload_n X 0 dX2_bestEvery_15 rfl ?_
      refine fk_getR' X fd_1_19 q1545 dX2_bestEvery_16 hf (fun z1 hf => ?_)
      refine fk_iconst (v := 5) X dX2_bestEvery_19 rfl ?_
      refine fk_iload_n X 1 dX2_bestEvery_20 rfl ?_
      refine fk_iadd X dX2_bestEvery_21 ?_
      refine fk_iaload' X dX2_bestEvery_22 hf (fun z2 hf => ?_)
      refine fk_iload X 4 dX2_bestEvery_23 rfl ?_
      obtain ⟨u3, hq, hf⟩ := bI hf
      obtain ⟨z4, hv, hf⟩ := bI hf
      refine fk_callV0I (ci := 1) (rest := []) X hq rfl (c_X2_saysBy hv) n_X2_saysBy q1844 q1846 qs92 q126 q1847 rfl dX2_bestEvery_25 rfl rfl rfl rfl rfl (Nat.le_refl _) (Nat.le_refl _) ?_
      refine fk_aload_n X 0 dX2_bestEvery_28 rfl ?_
      refine fk_iload_n X 1 dX2_bestEvery_29 rfl ?_
      refine fk_iload_n X 2 dX2_bestEvery_30 rfl ?_
      refine fk_aload_n X 0 dX2_bestEvery_31 rfl ?_
      refine fk_getR' X fd_1_19 q1545 dX2_bestEvery_32 hf (fun z5 hf => ?_)
      refine fk_iconst (v := 5) X dX2_bestEvery_35 rfl ?_
      refine fk_iload_n X 1 dX2_bestEvery_36 rfl ?_
      refine fk_iadd X dX2_bestEvery_37 ?_
      refine fk_iaload' X dX2_bestEvery_38 hf (fun z6 hf => ?_)
      refine fk_iload_n X 3 dX2_bestEvery_39 rfl ?_
      obtain ⟨u7, hq, hf⟩ := bI hf
      obtain ⟨z8, hv, hf⟩ := bI hf
      refine fk_callV0I (ci := 1) (rest := [tI z4]) X hq rfl (c_X2_saysBy hv) n_X2_saysBy q1844 q1846 qs92 q126 q1847 rfl dX2_bestEvery_40 rfl rfl rfl rfl rfl (Nat.le_refl _) (Nat.le_refl _) ?_
      have J1 : fk_W E 5 n m 0 0 49 [(0, tR x0), (1, tI x1), (2, tI x2), (3, tI (if z4 ≤ z8 then x3 else x4)), (4, tI x4)] [] := by
        refine fk_iinc X 4 [(4, tI (x4 + 1)), (0, tR x0), (1, tI x1), (2, tI x2), (3, tI (if z4 ≤ z8 then x3 else x4))] dX2_bestEvery_49 rfl rfl rfl rfl ?_
        refine fk_goto X 5 dX2_bestEvery_52 rfl ?_
        exact fk_cut' (ih (if z4 ≤ z8 then x3 else x4) (x4 + 1)  hf) [1, 2, 3, 4, 0] rfl
      refine fk_icmp_le X 49 dX2_bestEvery_43 rfl (fun hc2 => ?_) (fun hc2 => ?_)
      · simp only [if_pos hc2] at J1
        exact fk_cut' J1 [0, 1, 2, 3, 4] rfl
      · refine fk_iload X 4 dX2_bestEvery_46 rfl ?_
        refine fk_istore_n X [(3, tI x4), (0, tR x0), (1, tI x1), (2, tI x2), (4, tI x4)] dX2_bestEvery_48 rfl rfl ?_
        simp only [if_neg hc2] at J1
        exact fk_cut' J1 [1, 2, 3, 0, 4] rfl
def f_X2_bestEvery (a0 : Option Nat) (a1 : Int32) (a2 : Int32) (m : fk_M) : Option Int32 :=
  f_X2_bestEvery_L5 a0 a1 a2 m fk_fuel 0 1
set_option maxHeartbeats 4000000 in
theorem c_X2_bestEvery {l : Launch} {G : fk_G} {b0 : Nat} {n : Nat} {a0 : Option Nat} {a1 : Int32} {a2 : Int32} {m : fk_M} {r : Int32} (hf : f_X2_bestEvery a0 a1 a2 m = some r) : fk_Ct l G b0 yX2_bestEvery cX2_bestEvery 5 (some .int) 5 158 [tR a0, tI a1, tI a2] n m (some (tI r)) n m 0 0 := by
  refine fk_enter n_X2_bestEvery.1 rfl ?_
  intro E X0 Y
  have X : fk_X E l G b0 "FigureKneeModel" "bestEvery" cX2_bestEvery 5 5 158 0 0 := X0
  show fk_W E 5 n m 0 0 0 [(0, tR a0), (1, tI a1), (2, tI a2)] []
  unfold f_X2_bestEvery at hf
  refine fk_iconst (v := 0) X dX2_bestEvery_0 rfl ?_
  refine fk_istore_n X [(3, tI 0), (0, tR a0), (1, tI a1), (2, tI a2)] dX2_bestEvery_1 rfl rfl ?_
  refine fk_iconst (v := 1) X dX2_bestEvery_2 rfl ?_
  refine fk_istore X [(4, tI 1), (3, tI 0), (0, tR a0), (1, tI a1), (2, tI a2)] dX2_bestEvery_3 rfl rfl ?_
  exact fk_cut' (w_X2_bestEvery_L5 X Y a0 a1 a2 fk_fuel 0 1 hf) [2, 3, 4, 1, 0] rfl
/-! FigureKneeModel everyFor (II)I -/
theorem n_X2_everyFor : fk_N yX2_everyFor 2 := ⟨by decide +kernel, by decide +kernel, by decide +kernel, by decide +kernel⟩
def f_X2_everyFor (a0 : Option Nat) (a1 : Int32) (a2 : Int32) (m0 : fk_M) : Option (Int32 × fk_M) :=
  (isO m0 a0 1).bind fun u1 => (f_X2_good a0 m0).bind fun m2 => (isO m2 a0 1).bind fun u3 => (f_X2_isPair a0 a1 m2).bind fun z4 => (isO m2 a0 1).bind fun u5 => (f_X2_aheadWhy a0 z4 a2 m2).bind fun z6 => if z6 = 0 then ((isO m2 a0 1).bind fun u7 => (f_X2_bestEvery a0 a1 a2 m2).bind fun z8 => some (z8, m2)) else ((isO m2 a0 1).bind fun u9 => bn2 (f_X2_no a0 z6 m2) fun z10 m11 => some (z10, m11))
set_option maxHeartbeats 4000000 in
theorem c_X2_everyFor {l : Launch} {G : fk_G} {b0 : Nat} {n : Nat} {a0 : Option Nat} {a1 : Int32} {a2 : Int32} {m0 : fk_M} {r : Int32} {mF : fk_M} (hf : f_X2_everyFor a0 a1 a2 m0 = some (r, mF)) : fk_Ct l G b0 yX2_everyFor cX2_everyFor 4 (some .int) 6 182 [tR a0, tI a1, tI a2] n m0 (some (tI r)) n mF 0 0 := by
  refine fk_enter n_X2_everyFor.1 rfl ?_
  intro E X0 Y
  have X : fk_X E l G b0 "FigureKneeModel" "everyFor" cX2_everyFor 4 6 182 0 0 := X0
  show fk_W E 4 n m0 0 0 0 [(0, tR a0), (1, tI a1), (2, tI a2)] []
  unfold f_X2_everyFor at hf
  refine fk_aload_n X 0 dX2_everyFor_0 rfl ?_
  obtain ⟨u1, hq, hf⟩ := bI hf
  obtain ⟨m2, hv, hf⟩ := bI hf
  refine fk_callV0V (ci := 1) (rest := []) X hq rfl (c_X2_good hv) n_X2_good q1665 q1667 qs63 q126 q1668 rfl dX2_everyFor_1 rfl rfl rfl rfl rfl (Nat.le_refl _) (Nat.le_refl _) ?_
  refine fk_aload_n X 0 dX2_everyFor_4 rfl ?_
  refine fk_aload_n X 0 dX2_everyFor_5 rfl ?_
  refine fk_iload_n X 1 dX2_everyFor_6 rfl ?_
  obtain ⟨u3, hq, hf⟩ := bI hf
  obtain ⟨z4, hv, hf⟩ := bI hf
  refine fk_callV0I (ci := 1) (rest := [tR a0]) X hq rfl (c_X2_isPair hv) n_X2_isPair q1820 q1822 qs87 q126 q1823 rfl dX2_everyFor_7 rfl rfl rfl rfl rfl (Nat.le_refl _) (Nat.le_refl _) ?_
  refine fk_iload_n X 2 dX2_everyFor_10 rfl ?_
  obtain ⟨u5, hq, hf⟩ := bI hf
  obtain ⟨z6, hv, hf⟩ := bI hf
  refine fk_callV0I (ci := 1) (rest := []) X hq rfl (c_X2_aheadWhy hv) n_X2_aheadWhy q1832 q1834 qs89 q126 q1835 rfl dX2_everyFor_11 rfl rfl rfl rfl rfl (Nat.le_refl _) (Nat.le_refl _) ?_
  refine fk_istore_n X [(3, tI z6), (0, tR a0), (1, tI a1), (2, tI a2)] dX2_everyFor_14 rfl rfl ?_
  refine fk_iload_n X 0 dX2_everyFor_15 rfl ?_
  refine fk_if_eq' X 27 dX2_everyFor_16 rfl hf (fun hf => ?_) (fun hf => ?_)
  · refine fk_aload_n X 1 dX2_everyFor_27 rfl ?_
    refine fk_iload_n X 2 dX2_everyFor_28 rfl ?_
    refine fk_iload_n X 3 dX2_everyFor_29 rfl ?_
    obtain ⟨u7, hq, hf⟩ := bI hf
    obtain ⟨z8, hv, hf⟩ := bI hf
    refine fk_callV0I (ci := 1) (rest := []) X hq rfl (c_X2_bestEvery hv) n_X2_bestEvery q1945 q1947 qs101 q126 q1948 rfl dX2_everyFor_30 rfl rfl rfl rfl rfl (Nat.le_refl _) (Nat.le_refl _) ?_
    cases hf
    exact fk_ireturn X Y dX2_everyFor_33 rfl
  · refine fk_aload_n X 1 dX2_everyFor_19 rfl ?_
    refine fk_iload_n X 0 dX2_everyFor_20 rfl ?_
    obtain ⟨u9, hq, hf⟩ := bI hf
    obtain ⟨z10, m11, hv, hf⟩ := bn2_eq hf
    refine fk_callV0I (ci := 1) (rest := []) X hq rfl (c_X2_no hv) n_X2_no q1672 q1674 qs64 q126 q1675 rfl dX2_everyFor_21 rfl rfl rfl rfl rfl (Nat.le_refl _) (Nat.le_refl _) ?_
    refine fk_goto X 33 dX2_everyFor_24 rfl ?_
    cases hf
    exact fk_ireturn X Y dX2_everyFor_33 rfl
/-! FigureKneeModel everySays (II)I -/
theorem n_X2_everySays : fk_N yX2_everySays 2 := ⟨by decide +kernel, by decide +kernel, by decide +kernel, by decide +kernel⟩
def f_X2_everySays (a0 : Option Nat) (a1 : Int32) (a2 : Int32) (m0 : fk_M) : Option (Int32 × fk_M) :=
  (isO m0 a0 1).bind fun u1 => (f_X2_good a0 m0).bind fun m2 => (isO m2 a0 1).bind fun u3 => (f_X2_isPair a0 a1 m2).bind fun z4 => (isO m2 a0 1).bind fun u5 => (f_X2_aheadWhy a0 z4 a2 m2).bind fun z6 => if z6 = 0 then ((gR m2 a0 1 19).bind fun z7 => (aI m2 z7 0 (5 + a1)).bind fun z8 => (isO m2 a0 1).bind fun u9 => (f_X2_bestEvery a0 a1 a2 m2).bind fun z10 => (isO m2 a0 1).bind fun u11 => (f_X2_saysBy a0 a1 a2 z8 z10 m2).bind fun z12 => some (z12, m2)) else ((isO m2 a0 1).bind fun u13 => bn2 (f_X2_no a0 z6 m2) fun z14 m15 => some (z14, m15))
set_option maxHeartbeats 4000000 in
theorem c_X2_everySays {l : Launch} {G : fk_G} {b0 : Nat} {n : Nat} {a0 : Option Nat} {a1 : Int32} {a2 : Int32} {m0 : fk_M} {r : Int32} {mF : fk_M} (hf : f_X2_everySays a0 a1 a2 m0 = some (r, mF)) : fk_Ct l G b0 yX2_everySays cX2_everySays 4 (some .int) 6 182 [tR a0, tI a1, tI a2] n m0 (some (tI r)) n mF 0 0 := by
  refine fk_enter n_X2_everySays.1 rfl ?_
  intro E X0 Y
  have X : fk_X E l G b0 "FigureKneeModel" "everySays" cX2_everySays 4 6 182 0 0 := X0
  show fk_W E 4 n m0 0 0 0 [(0, tR a0), (1, tI a1), (2, tI a2)] []
  unfold f_X2_everySays at hf
  refine fk_aload_n X 0 dX2_everySays_0 rfl ?_
  obtain ⟨u1, hq, hf⟩ := bI hf
  obtain ⟨m2, hv, hf⟩ := bI hf
  refine fk_callV0V (ci := 1) (rest := []) X hq rfl (c_X2_good hv) n_X2_good q1665 q1667 qs63 q126 q1668 rfl dX2_everySays_1 rfl rfl rfl rfl rfl (Nat.le_refl _) (Nat.le_refl _) ?_
  refine fk_aload_n X 0 dX2_everySays_4 rfl ?_
  refine fk_aload_n X 0 dX2_everySays_5 rfl ?_
  refine fk_iload_n X 1 dX2_everySays_6 rfl ?_
  obtain ⟨u3, hq, hf⟩ := bI hf
  obtain ⟨z4, hv, hf⟩ := bI hf
  refine fk_callV0I (ci := 1) (rest := [tR a0]) X hq rfl (c_X2_isPair hv) n_X2_isPair q1820 q1822 qs87 q126 q1823 rfl dX2_everySays_7 rfl rfl rfl rfl rfl (Nat.le_refl _) (Nat.le_refl _) ?_
  refine fk_iload_n X 2 dX2_everySays_10 rfl ?_
  obtain ⟨u5, hq, hf⟩ := bI hf
  obtain ⟨z6, hv, hf⟩ := bI hf
  refine fk_callV0I (ci := 1) (rest := []) X hq rfl (c_X2_aheadWhy hv) n_X2_aheadWhy q1832 q1834 qs89 q126 q1835 rfl dX2_everySays_11 rfl rfl rfl rfl rfl (Nat.le_refl _) (Nat.le_refl _) ?_
  refine fk_istore_n X [(3, tI z6), (0, tR a0), (1, tI a1), (2, tI a2)] dX2_everySays_14 rfl rfl ?_
  refine fk_iload_n X 0 dX2_everySays_15 rfl ?_
  refine fk_if_eq' X 27 dX2_everySays_16 rfl hf (fun hf => ?_) (fun hf => ?_)
  · refine fk_aload_n X 1 dX2_everySays_27 rfl ?_
    refine fk_iload_n X 2 dX2_everySays_28 rfl ?_
    refine fk_iload_n X 3 dX2_everySays_29 rfl ?_
    refine fk_aload_n X 1 dX2_everySays_30 rfl ?_
    refine fk_getR' X fd_1_19 q1545 dX2_everySays_31 hf (fun z7 hf => ?_)
    refine fk_iconst (v := 5) X dX2_everySays_34 rfl ?_
    refine fk_iload_n X 2 dX2_everySays_35 rfl ?_
    refine fk_iadd X dX2_everySays_36 ?_
    refine fk_iaload' X dX2_everySays_37 hf (fun z8 hf => ?_)
    refine fk_aload_n X 1 dX2_everySays_38 rfl ?_
    refine fk_iload_n X 2 dX2_everySays_39 rfl ?_
    refine fk_iload_n X 3 dX2_everySays_40 rfl ?_
    obtain ⟨u9, hq, hf⟩ := bI hf
    obtain ⟨z10, hv, hf⟩ := bI hf
    refine fk_callV0I (ci := 1) (rest := [tI z8, tI a2, tI a1, tR a0]) X hq rfl (c_X2_bestEvery hv) n_X2_bestEvery q1945 q1947 qs101 q126 q1948 rfl dX2_everySays_41 rfl rfl rfl rfl rfl (Nat.le_refl _) (Nat.le_refl _) ?_
    obtain ⟨u11, hq, hf⟩ := bI hf
    obtain ⟨z12, hv, hf⟩ := bI hf
    refine fk_callV0I (ci := 1) (rest := []) X hq rfl (c_X2_saysBy hv) n_X2_saysBy q1844 q1846 qs92 q126 q1847 rfl dX2_everySays_44 rfl rfl rfl rfl rfl (Nat.le_refl _) (Nat.le_refl _) ?_
    cases hf
    exact fk_ireturn X Y dX2_everySays_47 rfl
  · refine fk_aload_n X 1 dX2_everySays_19 rfl ?_
    refine fk_iload_n X 0 dX2_everySays_20 rfl ?_
    obtain ⟨u13, hq, hf⟩ := bI hf
    obtain ⟨z14, m15, hv, hf⟩ := bn2_eq hf
    refine fk_callV0I (ci := 1) (rest := []) X hq rfl (c_X2_no hv) n_X2_no q1672 q1674 qs64 q126 q1675 rfl dX2_everySays_21 rfl rfl rfl rfl rfl (Nat.le_refl _) (Nat.le_refl _) ?_
    refine fk_goto X 47 dX2_everySays_24 rfl ?_
    cases hf
    exact fk_ireturn X Y dX2_everySays_47 rfl
/-! FigureKneeModel isNeverMore (II)Z -/
theorem n_X2_isNeverMore : fk_N yX2_isNeverMore 2 := ⟨by decide +kernel, by decide +kernel, by decide +kernel, by decide +kernel⟩
def f_X2_isNeverMore_L2 (x0 : Option Nat) (x1 : Int32) (x2 : Int32) (m : fk_M) : Nat → Int32 → Option Int32
  | 0, _ => none
  | N + 1, x3 =>
  if 60 < x3 then (some 1) else ((gR m x0 1 19).bind fun z1 => (aI m z1 0 (5 + x1)).bind fun z2 => (isO m x0 1).bind fun u3 => (f_X2_saysBy x0 x1 x3 z2 x2 m).bind fun z4 => (isO m x0 1).bind fun u5 => (f_X2_isMore x0 z4 m).bind fun z6 => if z6 = 0 then (f_X2_isNeverMore_L2 x0 x1 x2 m N (x3 + 1)) else (some 0))
set_option maxHeartbeats 4000000 in
theorem w_X2_isNeverMore_L2 {E : fk_E} {l : Launch} {G : fk_G} {b0 n : Nat} {m : fk_M} {r : Int32} (X : fk_X E l G b0 "FigureKneeModel" "isNeverMore" cX2_isNeverMore 4 5 158 0 0) (Y : fk_Y E (some .boolean) (some (tI r)) n m 0 0) (x0 : Option Nat) (x1 : Int32) (x2 : Int32) : ∀ (N : Nat) (x3 : Int32), f_X2_isNeverMore_L2 x0 x1 x2 m N x3 = some r → fk_W E 4 n m 0 0 2 [(0, tR x0), (1, tI x1), (2, tI x2), (3, tI x3)] [] := by
  intro N
  induction N with
  | zero =>
    intro x3 hf
    have hf : (none : Option Int32) = some _ := hf
    cases hf
  | succ N ih =>
    intro x3 hf
    rw [f_X2_isNeverMore_L2] at hf
    refine fk_iload_n X 3 dX2_isNeverMore_2 rfl ?_
    refine fk_bipush (v := 60) X dX2_isNeverMore_3 rfl ?_
    refine fk_icmp_gt' X 38 dX2_isNeverMore_5 rfl hf (fun hf => ?_) (fun hf => ?_)
    · refine fk_iconst (v := 1) X dX2_isNeverMore_38 rfl ?_
      cases hf
      exact fk_ireturn X Y dX2_isNeverMore_39 (by decide +kernel)
    · refine fk_aload_n X 0 dX2_isNeverMore_8 rfl ?_
      refine fk_aload_n X 0 dX2_isNeverMore_9 rfl ?_
      refine fk_iload_n X 1 dX2_isNeverMore_10 rfl ?_
      refine fk_iload_n X 3 dX2_isNeverMore_11 rfl ?_
      refine fk_aload_n X 0 dX2_isNeverMore_12 rfl ?_
      refine fk_getR' X fd_1_19 q1545 dX2_isNeverMore_13 hf (fun z1 hf => ?_)
      refine fk_iconst (v := 5) X dX2_isNeverMore_16 rfl ?_
      refine fk_iload_n X 1 dX2_isNeverMore_17 rfl ?_
      refine fk_iadd X dX2_isNeverMore_18 ?_
      refine fk_iaload' X dX2_isNeverMore_19 hf (fun z2 hf => ?_)
      refine fk_iload_n X 2 dX2_isNeverMore_20 rfl ?_
      obtain ⟨u3, hq, hf⟩ := bI hf
      obtain ⟨z4, hv, hf⟩ := bI hf
      refine fk_callV0I (ci := 1) (rest := [tR x0]) X hq rfl (c_X2_saysBy hv) n_X2_saysBy q1844 q1846 qs92 q126 q1847 rfl dX2_isNeverMore_21 rfl rfl rfl rfl rfl (Nat.le_refl _) (Nat.le_refl _) ?_
      obtain ⟨u5, hq, hf⟩ := bI hf
      obtain ⟨z6, hv, hf⟩ := bI hf
      refine fk_callV0I (ci := 1) (rest := []) X hq rfl (c_X2_isMore hv) n_X2_isMore q1824 q1826 qs88 q126 q1827 rfl dX2_isNeverMore_24 rfl rfl rfl rfl rfl (Nat.le_refl _) (Nat.le_refl _) ?_
      refine fk_if_eq' X 32 dX2_isNeverMore_27 rfl hf (fun hf => ?_) (fun hf => ?_)
      · refine fk_iinc X 3 [(3, tI (x3 + 1)), (0, tR x0), (1, tI x1), (2, tI x2)] dX2_isNeverMore_32 rfl rfl rfl rfl ?_
        refine fk_goto X 2 dX2_isNeverMore_35 rfl ?_
        exact fk_cut' (ih (x3 + 1)  hf) [1, 2, 3, 0] rfl
      · refine fk_iconst (v := 0) X dX2_isNeverMore_30 rfl ?_
        cases hf
        exact fk_ireturn X Y dX2_isNeverMore_31 (by decide +kernel)
def f_X2_isNeverMore (a0 : Option Nat) (a1 : Int32) (a2 : Int32) (m : fk_M) : Option Int32 :=
  f_X2_isNeverMore_L2 a0 a1 a2 m fk_fuel 1
set_option maxHeartbeats 4000000 in
theorem c_X2_isNeverMore {l : Launch} {G : fk_G} {b0 : Nat} {n : Nat} {a0 : Option Nat} {a1 : Int32} {a2 : Int32} {m : fk_M} {r : Int32} (hf : f_X2_isNeverMore a0 a1 a2 m = some r) : fk_Ct l G b0 yX2_isNeverMore cX2_isNeverMore 4 (some .boolean) 5 158 [tR a0, tI a1, tI a2] n m (some (tI r)) n m 0 0 := by
  refine fk_enter n_X2_isNeverMore.1 rfl ?_
  intro E X0 Y
  have X : fk_X E l G b0 "FigureKneeModel" "isNeverMore" cX2_isNeverMore 4 5 158 0 0 := X0
  show fk_W E 4 n m 0 0 0 [(0, tR a0), (1, tI a1), (2, tI a2)] []
  unfold f_X2_isNeverMore at hf
  refine fk_iconst (v := 1) X dX2_isNeverMore_0 rfl ?_
  refine fk_istore_n X [(3, tI 1), (0, tR a0), (1, tI a1), (2, tI a2)] dX2_isNeverMore_1 rfl rfl ?_
  exact fk_cut' (w_X2_isNeverMore_L2 X Y a0 a1 a2 fk_fuel 1 hf) [1, 2, 3, 0] rfl
/-! FigureKneeModel everyNever (I)I -/
theorem n_X2_everyNever : fk_N yX2_everyNever 1 := ⟨by decide +kernel, by decide +kernel, by decide +kernel, by decide +kernel⟩
def f_X2_everyNever_L20 (x0 : Option Nat) (x1 : Int32) (m0 : fk_M) : Nat → Int32 → Option (Int32 × fk_M)
  | 0, _ => none
  | N + 1, x2 =>
  if 9 < x2 then (some ((-2), m0)) else ((isO m0 x0 1).bind fun u1 => (f_X2_isNeverMore x0 x1 x2 m0).bind fun z2 => if z2 = 0 then (f_X2_everyNever_L20 x0 x1 m0 N (x2 + 1)) else (some (x2, m0)))
set_option maxHeartbeats 4000000 in
theorem w_X2_everyNever_L20 {E : fk_E} {l : Launch} {G : fk_G} {b0 n : Nat} {r : Int32} {mF : fk_M} (X : fk_X E l G b0 "FigureKneeModel" "everyNever" cX2_everyNever 3 6 181 0 0) (Y : fk_Y E (some .int) (some (tI r)) n mF 0 0) (x0 : Option Nat) (x1 : Int32) (m0 : fk_M) : ∀ (N : Nat) (x2 : Int32), f_X2_everyNever_L20 x0 x1 m0 N x2 = some (r, mF) → fk_W E 3 n m0 0 0 20 [(0, tR x0), (1, tI x1), (2, tI x2)] [] := by
  intro N
  induction N with
  | zero =>
    intro x2 hf
    have hf : (none : Option (Int32 × fk_M)) = some _ := hf
    cases hf
  | succ N ih =>
    intro x2 hf
    rw [f_X2_everyNever_L20] at hf
    refine fk_iload_n X 2 dX2_everyNever_20 rfl ?_
    refine fk_bipush (v := 9) X dX2_everyNever_21 rfl ?_
    refine fk_icmp_gt' X 43 dX2_everyNever_23 rfl hf (fun hf => ?_) (fun hf => ?_)
    · refine fk_bipush (v := (-2)) X dX2_everyNever_43 rfl ?_
      cases hf
      exact fk_ireturn X Y dX2_everyNever_45 rfl
    · refine fk_aload_n X 0 dX2_everyNever_26 rfl ?_
      refine fk_iload_n X 1 dX2_everyNever_27 rfl ?_
      refine fk_iload_n X 2 dX2_everyNever_28 rfl ?_
      obtain ⟨u1, hq, hf⟩ := bI hf
      obtain ⟨z2, hv, hf⟩ := bI hf
      refine fk_callV0I (ci := 1) (rest := []) X hq rfl (c_X2_isNeverMore hv) n_X2_isNeverMore q1957 q1959 qs102 q126 q1960 rfl dX2_everyNever_29 rfl rfl rfl rfl rfl (Nat.le_refl _) (Nat.le_refl _) ?_
      refine fk_if_eq' X 37 dX2_everyNever_32 rfl hf (fun hf => ?_) (fun hf => ?_)
      · refine fk_iinc X 2 [(2, tI (x2 + 1)), (0, tR x0), (1, tI x1)] dX2_everyNever_37 rfl rfl rfl rfl ?_
        refine fk_goto X 20 dX2_everyNever_40 rfl ?_
        exact fk_cut' (ih (x2 + 1)  hf) [1, 2, 0] rfl
      · refine fk_iload_n X 2 dX2_everyNever_35 rfl ?_
        cases hf
        exact fk_ireturn X Y dX2_everyNever_36 rfl
def f_X2_everyNever (a0 : Option Nat) (a1 : Int32) (m0 : fk_M) : Option (Int32 × fk_M) :=
  (isO m0 a0 1).bind fun u1 => (f_X2_good a0 m0).bind fun m2 => (isO m2 a0 1).bind fun u3 => (f_X2_isPair a0 a1 m2).bind fun z4 => if z4 = 0 then ((isO m2 a0 1).bind fun u5 => bn2 (f_X2_no a0 1 m2) fun z6 m7 => some (z6, m7)) else (f_X2_everyNever_L20 a0 a1 m2 fk_fuel 0)
set_option maxHeartbeats 4000000 in
theorem c_X2_everyNever {l : Launch} {G : fk_G} {b0 : Nat} {n : Nat} {a0 : Option Nat} {a1 : Int32} {m0 : fk_M} {r : Int32} {mF : fk_M} (hf : f_X2_everyNever a0 a1 m0 = some (r, mF)) : fk_Ct l G b0 yX2_everyNever cX2_everyNever 3 (some .int) 6 181 [tR a0, tI a1] n m0 (some (tI r)) n mF 0 0 := by
  refine fk_enter n_X2_everyNever.1 rfl ?_
  intro E X0 Y
  have X : fk_X E l G b0 "FigureKneeModel" "everyNever" cX2_everyNever 3 6 181 0 0 := X0
  show fk_W E 3 n m0 0 0 0 [(0, tR a0), (1, tI a1)] []
  unfold f_X2_everyNever at hf
  refine fk_aload_n X 0 dX2_everyNever_0 rfl ?_
  obtain ⟨u1, hq, hf⟩ := bI hf
  obtain ⟨m2, hv, hf⟩ := bI hf
  refine fk_callV0V (ci := 1) (rest := []) X hq rfl (c_X2_good hv) n_X2_good q1665 q1667 qs63 q126 q1668 rfl dX2_everyNever_1 rfl rfl rfl rfl rfl (Nat.le_refl _) (Nat.le_refl _) ?_
  refine fk_aload_n X 0 dX2_everyNever_4 rfl ?_
  refine fk_iload_n X 1 dX2_everyNever_5 rfl ?_
  obtain ⟨u3, hq, hf⟩ := bI hf
  obtain ⟨z4, hv, hf⟩ := bI hf
  refine fk_callV0I (ci := 1) (rest := []) X hq rfl (c_X2_isPair hv) n_X2_isPair q1820 q1822 qs87 q126 q1823 rfl dX2_everyNever_6 rfl rfl rfl rfl rfl (Nat.le_refl _) (Nat.le_refl _) ?_
  refine fk_if_ne' X 18 dX2_everyNever_9 rfl hf (fun hf => ?_) (fun hf => ?_)
  · refine fk_iconst (v := 0) X dX2_everyNever_18 rfl ?_
    refine fk_istore_n X [(2, tI 0), (0, tR a0), (1, tI a1)] dX2_everyNever_19 rfl rfl ?_
    exact fk_cut' (w_X2_everyNever_L20 X Y a0 a1 m2 fk_fuel 0 hf) [1, 2, 0] rfl
  · refine fk_aload_n X 0 dX2_everyNever_12 rfl ?_
    refine fk_iconst (v := 1) X dX2_everyNever_13 rfl ?_
    obtain ⟨u5, hq, hf⟩ := bI hf
    obtain ⟨z6, m7, hv, hf⟩ := bn2_eq hf
    refine fk_callV0I (ci := 1) (rest := []) X hq rfl (c_X2_no hv) n_X2_no q1672 q1674 qs64 q126 q1675 rfl dX2_everyNever_14 rfl rfl rfl rfl rfl (Nat.le_refl _) (Nat.le_refl _) ?_
    cases hf
    exact fk_ireturn X Y dX2_everyNever_17 rfl
/-! FigureKneeModel stepFor (II)I -/
theorem n_X2_stepFor : fk_N yX2_stepFor 2 := ⟨by decide +kernel, by decide +kernel, by decide +kernel, by decide +kernel⟩
def f_X2_stepFor_L28 (x0 : Option Nat) (x1 : Int32) (x2 : Int32) (m0 : fk_M) : Nat → Int32 → Option (Int32 × fk_M)
  | 0, _ => none
  | N + 1, x4 =>
  if 20 < x4 then (some ((-2), m0)) else ((gR m0 x0 1 15).bind fun z1 => (aI m0 z1 0 (13 + x1)).bind fun z2 => (isO m0 x0 1).bind fun u3 => (f_X2_saysBy x0 x1 x2 x4 z2 m0).bind fun z4 => (isO m0 x0 1).bind fun u5 => (f_X2_isMore x0 z4 m0).bind fun z6 => if z6 = 0 then (f_X2_stepFor_L28 x0 x1 x2 m0 N (x4 + 1)) else (some (x4, m0)))
set_option maxHeartbeats 4000000 in
theorem w_X2_stepFor_L28 {E : fk_E} {l : Launch} {G : fk_G} {b0 n : Nat} {r : Int32} {mF : fk_M} (X : fk_X E l G b0 "FigureKneeModel" "stepFor" cX2_stepFor 5 5 158 0 0) (Y : fk_Y E (some .int) (some (tI r)) n mF 0 0) (x0 : Option Nat) (x1 : Int32) (x2 : Int32) (m0 : fk_M) : ∀ (N : Nat) (x4 : Int32), f_X2_stepFor_L28 x0 x1 x2 m0 N x4 = some (r, mF) → fk_W E 5 n m0 0 0 28 [(0, tR x0), (1, tI x1), (2, tI x2), (4, tI x4)] [] := by
  intro N
  induction N with
  | zero =>
    intro x4 hf
    have hf : (none : Option (Int32 × fk_M)) = some _ := hf
    cases hf
  | succ N ih =>
    intro x4 hf
    rw [f_X2_stepFor_L28] at hf
    refine fk_iload X 3 dX2_stepFor_28 rfl ?_
    refine fk_bipush (v := 20) X dX2_stepFor_30 rfl ?_
    refine fk_icmp_gt' X 68 dX2_stepFor_32 rfl hf (fun hf => ?_) (fun hf => ?_)
    · refine fk_bipush (v := (-2)) X dX2_stepFor_68 rfl ?_
      cases hf
      exact fk_ireturn X Y dX2_stepFor_70 rfl
    · refine fk_aload_n X 0 dX2_stepFor_35 rfl ?_
      refine fk_aload_n X 0 dX2_stepFor_36 rfl ?_
      refine fk_iload_n X 1 dX2_stepFor_37 rfl ?_
      refine fk_iload_n X 2 dX2_stepFor_38 rfl ?_
      refine fk_iload X 3 dX2_stepFor_39 rfl ?_
      refine fk_aload_n X 0 dX2_stepFor_41 rfl ?_
      refine fk_getR' X fd_1_15 q1541 dX2_stepFor_42 hf (fun z1 hf => ?_)
      refine fk_bipush (v := 13) X dX2_stepFor_45 rfl ?_
      refine fk_iload_n X 1 dX2_stepFor_47 rfl ?_
      refine fk_iadd X dX2_stepFor_48 ?_
      refine fk_iaload' X dX2_stepFor_49 hf (fun z2 hf => ?_)
      obtain ⟨u3, hq, hf⟩ := bI hf
      obtain ⟨z4, hv, hf⟩ := bI hf
      refine fk_callV0I (ci := 1) (rest := [tR x0]) X hq rfl (c_X2_saysBy hv) n_X2_saysBy q1844 q1846 qs92 q126 q1847 rfl dX2_stepFor_50 rfl rfl rfl rfl rfl (Nat.le_refl _) (Nat.le_refl _) ?_
      obtain ⟨u5, hq, hf⟩ := bI hf
      obtain ⟨z6, hv, hf⟩ := bI hf
      refine fk_callV0I (ci := 1) (rest := []) X hq rfl (c_X2_isMore hv) n_X2_isMore q1824 q1826 qs88 q126 q1827 rfl dX2_stepFor_53 rfl rfl rfl rfl rfl (Nat.le_refl _) (Nat.le_refl _) ?_
      refine fk_if_eq' X 62 dX2_stepFor_56 rfl hf (fun hf => ?_) (fun hf => ?_)
      · refine fk_iinc X 3 [(4, tI (x4 + 1)), (0, tR x0), (1, tI x1), (2, tI x2)] dX2_stepFor_62 rfl rfl rfl rfl ?_
        refine fk_goto X 28 dX2_stepFor_65 rfl ?_
        exact fk_cut' (ih (x4 + 1)  hf) [1, 2, 3, 0] rfl
      · refine fk_iload X 3 dX2_stepFor_59 rfl ?_
        cases hf
        exact fk_ireturn X Y dX2_stepFor_61 rfl
def f_X2_stepFor (a0 : Option Nat) (a1 : Int32) (a2 : Int32) (m0 : fk_M) : Option (Int32 × fk_M) :=
  (isO m0 a0 1).bind fun u1 => (f_X2_good a0 m0).bind fun m2 => (isO m2 a0 1).bind fun u3 => (f_X2_isPair a0 a1 m2).bind fun z4 => (isO m2 a0 1).bind fun u5 => (f_X2_aheadWhy a0 z4 a2 m2).bind fun z6 => if z6 = 0 then (f_X2_stepFor_L28 a0 a1 a2 m2 fk_fuel 0) else ((isO m2 a0 1).bind fun u7 => bn2 (f_X2_no a0 z6 m2) fun z8 m9 => some (z8, m9))
set_option maxHeartbeats 4000000 in
theorem c_X2_stepFor {l : Launch} {G : fk_G} {b0 : Nat} {n : Nat} {a0 : Option Nat} {a1 : Int32} {a2 : Int32} {m0 : fk_M} {r : Int32} {mF : fk_M} (hf : f_X2_stepFor a0 a1 a2 m0 = some (r, mF)) : fk_Ct l G b0 yX2_stepFor cX2_stepFor 5 (some .int) 5 158 [tR a0, tI a1, tI a2] n m0 (some (tI r)) n mF 0 0 := by
  refine fk_enter n_X2_stepFor.1 rfl ?_
  intro E X0 Y
  have X : fk_X E l G b0 "FigureKneeModel" "stepFor" cX2_stepFor 5 5 158 0 0 := X0
  show fk_W E 5 n m0 0 0 0 [(0, tR a0), (1, tI a1), (2, tI a2)] []
  unfold f_X2_stepFor at hf
  refine fk_aload_n X 0 dX2_stepFor_0 rfl ?_
  obtain ⟨u1, hq, hf⟩ := bI hf
  obtain ⟨m2, hv, hf⟩ := bI hf
  refine fk_callV0V (ci := 1) (rest := []) X hq rfl (c_X2_good hv) n_X2_good q1665 q1667 qs63 q126 q1668 rfl dX2_stepFor_1 rfl rfl rfl rfl rfl (Nat.le_refl _) (Nat.le_refl _) ?_
  refine fk_aload_n X 0 dX2_stepFor_4 rfl ?_
  refine fk_aload_n X 0 dX2_stepFor_5 rfl ?_
  refine fk_iload_n X 1 dX2_stepFor_6 rfl ?_
  obtain ⟨u3, hq, hf⟩ := bI hf
  obtain ⟨z4, hv, hf⟩ := bI hf
  refine fk_callV0I (ci := 1) (rest := [tR a0]) X hq rfl (c_X2_isPair hv) n_X2_isPair q1820 q1822 qs87 q126 q1823 rfl dX2_stepFor_7 rfl rfl rfl rfl rfl (Nat.le_refl _) (Nat.le_refl _) ?_
  refine fk_iload_n X 2 dX2_stepFor_10 rfl ?_
  obtain ⟨u5, hq, hf⟩ := bI hf
  obtain ⟨z6, hv, hf⟩ := bI hf
  refine fk_callV0I (ci := 1) (rest := []) X hq rfl (c_X2_aheadWhy hv) n_X2_aheadWhy q1832 q1834 qs89 q126 q1835 rfl dX2_stepFor_11 rfl rfl rfl rfl rfl (Nat.le_refl _) (Nat.le_refl _) ?_
  refine fk_istore_n X [(3, tI z6), (0, tR a0), (1, tI a1), (2, tI a2)] dX2_stepFor_14 rfl rfl ?_
  refine fk_iload_n X 0 dX2_stepFor_15 rfl ?_
  refine fk_if_eq' X 25 dX2_stepFor_16 rfl hf (fun hf => ?_) (fun hf => ?_)
  · refine fk_iconst (v := 0) X dX2_stepFor_25 rfl ?_
    refine fk_istore X [(4, tI 0), (3, tI z6), (0, tR a0), (1, tI a1), (2, tI a2)] dX2_stepFor_26 rfl rfl ?_
    exact fk_cut' (w_X2_stepFor_L28 X Y a0 a1 a2 m2 fk_fuel 0 hf) [2, 3, 4, 0] rfl
  · refine fk_aload_n X 1 dX2_stepFor_19 rfl ?_
    refine fk_iload_n X 0 dX2_stepFor_20 rfl ?_
    obtain ⟨u7, hq, hf⟩ := bI hf
    obtain ⟨z8, m9, hv, hf⟩ := bn2_eq hf
    refine fk_callV0I (ci := 1) (rest := []) X hq rfl (c_X2_no hv) n_X2_no q1672 q1674 qs64 q126 q1675 rfl dX2_stepFor_21 rfl rfl rfl rfl rfl (Nat.le_refl _) (Nat.le_refl _) ?_
    cases hf
    exact fk_ireturn X Y dX2_stepFor_24 rfl
/-! FigureKneeModel hasBit (II)Z -/
theorem n_X2_hasBit : fk_N yX2_hasBit 2 := ⟨by decide +kernel, by decide +kernel, by decide +kernel, by decide +kernel⟩
def f_X2_hasBit (a0 : Int32) (a1 : Int32) (m : fk_M) : Option Int32 :=
  some (if ((i_shr a0 a1) &&& 1) = 1 then (1 : Int32) else 0)
set_option maxHeartbeats 4000000 in
theorem c_X2_hasBit {l : Launch} {G : fk_G} {b0 : Nat} {n : Nat} {a0 : Int32} {a1 : Int32} {m : fk_M} {r : Int32} (hf : f_X2_hasBit a0 a1 m = some r) : fk_Ct l G b0 yX2_hasBit cX2_hasBit 2 (some .boolean) 1 60 [tI a0, tI a1] n m (some (tI r)) n m 0 0 := by
  refine fk_enter n_X2_hasBit.1 rfl ?_
  intro E X0 Y
  have X : fk_X E l G b0 "FigureKneeModel" "hasBit" cX2_hasBit 2 1 60 0 0 := X0
  show fk_W E 2 n m 0 0 0 [(0, tI a0), (1, tI a1)] []
  unfold f_X2_hasBit at hf
  refine fk_iload_n X 0 dX2_hasBit_0 rfl ?_
  refine fk_iload_n X 1 dX2_hasBit_1 rfl ?_
  refine fk_ishr X dX2_hasBit_2 ?_
  refine fk_iconst (v := 1) X dX2_hasBit_3 rfl ?_
  refine fk_iand X dX2_hasBit_4 ?_
  refine fk_iconst (v := 1) X dX2_hasBit_5 rfl ?_
  have J1 : fk_W E 2 n m 0 0 14 [] [tI (if ((i_shr a0 a1) &&& 1) = 1 then (1 : Int32) else 0)] := by
    cases hf
    exact fk_ireturn X Y dX2_hasBit_14 (by (repeat' split) <;> decide +kernel)
  refine fk_icmp_ne X 13 dX2_hasBit_6 rfl (fun hc2 => ?_) (fun hc2 => ?_)
  · refine fk_iconst (v := 0) X dX2_hasBit_13 rfl ?_
    simp only [if_neg hc2] at J1
    exact fk_cut' J1 [] rfl
  · refine fk_iconst (v := 1) X dX2_hasBit_9 rfl ?_
    refine fk_goto X 14 dX2_hasBit_10 rfl ?_
    simp only [if_pos hc2] at J1
    exact fk_cut' J1 [] rfl
/-! FigureKneeModel stepBy (II)I -/
theorem n_X2_stepBy : fk_N yX2_stepBy 2 := ⟨by decide +kernel, by decide +kernel, by decide +kernel, by decide +kernel⟩
def f_X2_stepBy_J63 (R12 : Int32 → Int32 → Option Int32) (x0 : Option Nat) (x1 : Int32) (x2 : Int32) (x3 : Int32) (x4 : Int32) (m : fk_M) : Option Int32 :=
  R12 x3 (x4 + 1)
set_option maxHeartbeats 4000000 in
theorem w_X2_stepBy_J63 {E : fk_E} {l : Launch} {G : fk_G} {b0 n : Nat} {m : fk_M} {r : Int32} (X : fk_X E l G b0 "FigureKneeModel" "stepBy" cX2_stepBy 5 2 81 0 0) (Y : fk_Y E (some .int) (some (tI r)) n m 0 0) (x0 : Option Nat) (x1 : Int32) (x2 : Int32) (x3 : Int32) (x4 : Int32)  {R12 : Int32 → Int32 → Option Int32} (hR12 : ∀ (v3 : Int32) (v4 : Int32), R12 v3 v4 = some r → fk_W E 5 n m 0 0 12 [(0, tR x0), (1, tI x1), (2, tI x2), (3, tI v3), (4, tI v4)] []) (hf : f_X2_stepBy_J63 R12 x0 x1 x2 x3 x4 m = some r) : fk_W E 5 n m 0 0 63 [(0, tR x0), (1, tI x1), (2, tI x2), (3, tI x3), (4, tI x4)] [] := by
  unfold f_X2_stepBy_J63 at hf
  refine fk_iinc X 4 [(4, tI (x4 + 1)), (0, tR x0), (1, tI x1), (2, tI x2), (3, tI x3)] dX2_stepBy_63 rfl rfl rfl rfl ?_
  refine fk_goto X 12 dX2_stepBy_66 rfl ?_
  exact fk_cut' (hR12 x3 (x4 + 1)  hf) [1, 2, 3, 4, 0] rfl
def f_X2_stepBy_L12 (x0 : Option Nat) (x1 : Int32) (x2 : Int32) (m : fk_M) : Nat → Int32 → Int32 → Option Int32
  | 0, _, _ => none
  | N + 1, x3, x4 =>
  (gR m x0 1 15).bind fun z1 => (aI m z1 0 5).bind fun z2 => if z2 ≤ x4 then (some x3) else ((gR m x0 1 15).bind fun z3 => (aI m z3 0 (18 + (2 * x4))).bind fun z4 => if z4 = x1 then ((f_X2_hasBit x2 x4 m).bind fun z5 => if z5 = 0 then (f_X2_stepBy_J63 (f_X2_stepBy_L12 x0 x1 x2 m N) x0 x1 x2 x3 x4 m) else ((gR m x0 1 15).bind fun z6 => (aI m z6 0 ((18 + (2 * x4)) + 1)).bind fun z7 => f_X2_stepBy_J63 (f_X2_stepBy_L12 x0 x1 x2 m N) x0 x1 x2 z7 x4 m)) else (f_X2_stepBy_J63 (f_X2_stepBy_L12 x0 x1 x2 m N) x0 x1 x2 x3 x4 m))
set_option maxHeartbeats 4000000 in
theorem w_X2_stepBy_L12 {E : fk_E} {l : Launch} {G : fk_G} {b0 n : Nat} {m : fk_M} {r : Int32} (X : fk_X E l G b0 "FigureKneeModel" "stepBy" cX2_stepBy 5 2 81 0 0) (Y : fk_Y E (some .int) (some (tI r)) n m 0 0) (x0 : Option Nat) (x1 : Int32) (x2 : Int32) : ∀ (N : Nat) (x3 : Int32) (x4 : Int32), f_X2_stepBy_L12 x0 x1 x2 m N x3 x4 = some r → fk_W E 5 n m 0 0 12 [(0, tR x0), (1, tI x1), (2, tI x2), (3, tI x3), (4, tI x4)] [] := by
  intro N
  induction N with
  | zero =>
    intro x3 x4 hf
    have hf : (none : Option Int32) = some _ := hf
    cases hf
  | succ N ih =>
    intro x3 x4 hf
    rw [f_X2_stepBy_L12] at hf
    refine fk_iload X 4 dX2_stepBy_12 rfl ?_
    refine fk_aload_n X 0 dX2_stepBy_14 rfl ?_
    refine fk_getR' X fd_1_15 q1541 dX2_stepBy_15 hf (fun z1 hf => ?_)
    refine fk_iconst (v := 5) X dX2_stepBy_18 rfl ?_
    refine fk_iaload' X dX2_stepBy_19 hf (fun z2 hf => ?_)
    refine fk_icmp_ge' X 69 dX2_stepBy_20 rfl hf (fun hf => ?_) (fun hf => ?_)
    · refine fk_iload_n X 3 dX2_stepBy_69 rfl ?_
      cases hf
      exact fk_ireturn X Y dX2_stepBy_70 rfl
    · refine fk_aload_n X 0 dX2_stepBy_23 rfl ?_
      refine fk_getR' X fd_1_15 q1541 dX2_stepBy_24 hf (fun z3 hf => ?_)
      refine fk_bipush (v := 18) X dX2_stepBy_27 rfl ?_
      refine fk_iconst (v := 2) X dX2_stepBy_29 rfl ?_
      refine fk_iload X 4 dX2_stepBy_30 rfl ?_
      refine fk_imul X dX2_stepBy_32 ?_
      refine fk_iadd X dX2_stepBy_33 ?_
      refine fk_iaload' X dX2_stepBy_34 hf (fun z4 hf => ?_)
      refine fk_iload_n X 1 dX2_stepBy_35 rfl ?_
      refine fk_icmp_ne' X 63 dX2_stepBy_36 rfl hf (fun hf => ?_) (fun hf => ?_)
      · exact fk_cut' (w_X2_stepBy_J63 X Y x0 x1 x2 x3 x4 ih hf) [0, 1, 2, 3, 4] rfl
      · refine fk_iload_n X 2 dX2_stepBy_39 rfl ?_
        refine fk_iload X 4 dX2_stepBy_40 rfl ?_
        obtain ⟨z5, hv, hf⟩ := bI hf
        refine fk_callS0I (rest := []) X (c_X2_hasBit hv) n_X2_hasBit q1985 q1986 q126 q1987 dX2_stepBy_42 rfl rfl rfl rfl rfl (Nat.le_refl _) (Nat.le_refl _) ?_
        refine fk_if_eq' X 63 dX2_stepBy_45 rfl hf (fun hf => ?_) (fun hf => ?_)
        · exact fk_cut' (w_X2_stepBy_J63 X Y x0 x1 x2 x3 x4 ih hf) [0, 1, 2, 3, 4] rfl
        · refine fk_aload_n X 0 dX2_stepBy_48 rfl ?_
          refine fk_getR' X fd_1_15 q1541 dX2_stepBy_49 hf (fun z6 hf => ?_)
          refine fk_bipush (v := 18) X dX2_stepBy_52 rfl ?_
          refine fk_iconst (v := 2) X dX2_stepBy_54 rfl ?_
          refine fk_iload X 4 dX2_stepBy_55 rfl ?_
          refine fk_imul X dX2_stepBy_57 ?_
          refine fk_iadd X dX2_stepBy_58 ?_
          refine fk_iconst (v := 1) X dX2_stepBy_59 rfl ?_
          refine fk_iadd X dX2_stepBy_60 ?_
          refine fk_iaload' X dX2_stepBy_61 hf (fun z7 hf => ?_)
          refine fk_istore_n X [(3, tI z7), (0, tR x0), (1, tI x1), (2, tI x2), (4, tI x4)] dX2_stepBy_62 rfl rfl ?_
          exact fk_cut' (w_X2_stepBy_J63 X Y x0 x1 x2 z7 x4 ih hf) [1, 2, 3, 0, 4] rfl
def f_X2_stepBy (a0 : Option Nat) (a1 : Int32) (a2 : Int32) (m : fk_M) : Option Int32 :=
  (gR m a0 1 17).bind fun z1 => (aI m z1 0 (5 + a1)).bind fun z2 => f_X2_stepBy_L12 a0 a1 a2 m fk_fuel z2 0
set_option maxHeartbeats 4000000 in
theorem c_X2_stepBy {l : Launch} {G : fk_G} {b0 : Nat} {n : Nat} {a0 : Option Nat} {a1 : Int32} {a2 : Int32} {m : fk_M} {r : Int32} (hf : f_X2_stepBy a0 a1 a2 m = some r) : fk_Ct l G b0 yX2_stepBy cX2_stepBy 5 (some .int) 2 81 [tR a0, tI a1, tI a2] n m (some (tI r)) n m 0 0 := by
  refine fk_enter n_X2_stepBy.1 rfl ?_
  intro E X0 Y
  have X : fk_X E l G b0 "FigureKneeModel" "stepBy" cX2_stepBy 5 2 81 0 0 := X0
  show fk_W E 5 n m 0 0 0 [(0, tR a0), (1, tI a1), (2, tI a2)] []
  unfold f_X2_stepBy at hf
  refine fk_aload_n X 0 dX2_stepBy_0 rfl ?_
  refine fk_getR' X fd_1_17 q1543 dX2_stepBy_1 hf (fun z1 hf => ?_)
  refine fk_iconst (v := 5) X dX2_stepBy_4 rfl ?_
  refine fk_iload_n X 1 dX2_stepBy_5 rfl ?_
  refine fk_iadd X dX2_stepBy_6 ?_
  refine fk_iaload' X dX2_stepBy_7 hf (fun z2 hf => ?_)
  refine fk_istore_n X [(3, tI z2), (0, tR a0), (1, tI a1), (2, tI a2)] dX2_stepBy_8 rfl rfl ?_
  refine fk_iconst (v := 0) X dX2_stepBy_9 rfl ?_
  refine fk_istore X [(4, tI 0), (3, tI z2), (0, tR a0), (1, tI a1), (2, tI a2)] dX2_stepBy_10 rfl rfl ?_
  exact fk_cut' (w_X2_stepBy_L12 X Y a0 a1 a2 fk_fuel z2 0 hf) [2, 3, 4, 1, 0] rfl
/-! FigureKneeModel saidThen (III)I -/
theorem n_X2_saidThen : fk_N yX2_saidThen 3 := ⟨by decide +kernel, by decide +kernel, by decide +kernel, by decide +kernel⟩
def f_X2_saidThen_L11 (x0 : Option Nat) (x1 : Int32) (x2 : Int32) (x3 : Int32) (m : fk_M) : Nat → Int32 → Int32 → Option Int32
  | 0, _, _ => none
  | N + 1, x4, x5 =>
  if x2 < x5 then (some x4) else ((isO m x0 1).bind fun u1 => (f_X2_stepBy x0 x1 x3 m).bind fun z2 => (gR m x0 1 15).bind fun z3 => (aI m z3 0 (13 + x1)).bind fun z4 => (isO m x0 1).bind fun u5 => (f_X2_behind x0 x1 x4 z2 z4 x5 0 m).bind fun z6 => f_X2_saidThen_L11 x0 x1 x2 x3 m N z6 (x5 + 1))
set_option maxHeartbeats 4000000 in
theorem w_X2_saidThen_L11 {E : fk_E} {l : Launch} {G : fk_G} {b0 n : Nat} {m : fk_M} {r : Int32} (X : fk_X E l G b0 "FigureKneeModel" "saidThen" cX2_saidThen 6 4 132 0 0) (Y : fk_Y E (some .int) (some (tI r)) n m 0 0) (x0 : Option Nat) (x1 : Int32) (x2 : Int32) (x3 : Int32) : ∀ (N : Nat) (x4 : Int32) (x5 : Int32), f_X2_saidThen_L11 x0 x1 x2 x3 m N x4 x5 = some r → fk_W E 6 n m 0 0 11 [(0, tR x0), (1, tI x1), (2, tI x2), (3, tI x3), (4, tI x4), (5, tI x5)] [] := by
  intro N
  induction N with
  | zero =>
    intro x4 x5 hf
    have hf : (none : Option Int32) = some _ := hf
    cases hf
  | succ N ih =>
    intro x4 x5 hf
    rw [f_X2_saidThen_L11] at hf
    refine fk_iload X 5 dX2_saidThen_11 rfl ?_
    refine fk_iload_n X 2 dX2_saidThen_13 rfl ?_
    refine fk_icmp_gt' X 50 dX2_saidThen_14 rfl hf (fun hf => ?_) (fun hf => ?_)
    · refine fk_iload X 4 dX2_saidThen_50 rfl ?_
      cases hf
      exact fk_ireturn X Y dX2_saidThen_52 rfl
    · refine fk_aload_n X 0 dX2_saidThen_17 rfl ?_
      refine fk_iload_n X 1 dX2_saidThen_18 rfl ?_
      refine fk_iload X 4 dX2_saidThen_19 rfl ?_
      refine fk_aload_n X 0 dX2_saidThen_21 rfl ?_
      refine fk_iload_n X 1 dX2_saidThen_22 rfl ?_
      refine fk_iload_n X 3 dX2_saidThen_23 rfl ?_
      obtain ⟨u1, hq, hf⟩ := bI hf
      obtain ⟨z2, hv, hf⟩ := bI hf
      refine fk_callV0I (ci := 1) (rest := [tI x4, tI x1, tR x0]) X hq rfl (c_X2_stepBy hv) n_X2_stepBy q1981 q1983 qs106 q126 q1984 rfl dX2_saidThen_24 rfl rfl rfl rfl rfl (Nat.le_refl _) (Nat.le_refl _) ?_
      refine fk_aload_n X 0 dX2_saidThen_27 rfl ?_
      refine fk_getR' X fd_1_15 q1541 dX2_saidThen_28 hf (fun z3 hf => ?_)
      refine fk_bipush (v := 13) X dX2_saidThen_31 rfl ?_
      refine fk_iload_n X 1 dX2_saidThen_33 rfl ?_
      refine fk_iadd X dX2_saidThen_34 ?_
      refine fk_iaload' X dX2_saidThen_35 hf (fun z4 hf => ?_)
      refine fk_iload X 5 dX2_saidThen_36 rfl ?_
      refine fk_iconst (v := 0) X dX2_saidThen_38 rfl ?_
      obtain ⟨u5, hq, hf⟩ := bI hf
      obtain ⟨z6, hv, hf⟩ := bI hf
      refine fk_callV0I (ci := 1) (rest := []) X hq rfl (c_X2_behind hv) n_X2_behind q1848 q1850 qs93 q126 q1851 rfl dX2_saidThen_39 rfl rfl rfl rfl rfl (Nat.le_refl _) (Nat.le_refl _) ?_
      refine fk_istore X [(4, tI z6), (0, tR x0), (1, tI x1), (2, tI x2), (3, tI x3), (5, tI x5)] dX2_saidThen_42 rfl rfl ?_
      refine fk_iinc X 5 [(5, tI (x5 + 1)), (4, tI z6), (0, tR x0), (1, tI x1), (2, tI x2), (3, tI x3)] dX2_saidThen_44 rfl rfl rfl rfl ?_
      refine fk_goto X 11 dX2_saidThen_47 rfl ?_
      exact fk_cut' (ih z6 (x5 + 1)  hf) [2, 3, 4, 5, 1, 0] rfl
def f_X2_saidThen (a0 : Option Nat) (a1 : Int32) (a2 : Int32) (a3 : Int32) (m : fk_M) : Option Int32 :=
  (gR m a0 1 17).bind fun z1 => (aI m z1 0 a1).bind fun z2 => f_X2_saidThen_L11 a0 a1 a2 a3 m fk_fuel z2 1
set_option maxHeartbeats 4000000 in
theorem c_X2_saidThen {l : Launch} {G : fk_G} {b0 : Nat} {n : Nat} {a0 : Option Nat} {a1 : Int32} {a2 : Int32} {a3 : Int32} {m : fk_M} {r : Int32} (hf : f_X2_saidThen a0 a1 a2 a3 m = some r) : fk_Ct l G b0 yX2_saidThen cX2_saidThen 6 (some .int) 4 132 [tR a0, tI a1, tI a2, tI a3] n m (some (tI r)) n m 0 0 := by
  refine fk_enter n_X2_saidThen.1 rfl ?_
  intro E X0 Y
  have X : fk_X E l G b0 "FigureKneeModel" "saidThen" cX2_saidThen 6 4 132 0 0 := X0
  show fk_W E 6 n m 0 0 0 [(0, tR a0), (1, tI a1), (2, tI a2), (3, tI a3)] []
  unfold f_X2_saidThen at hf
  refine fk_aload_n X 0 dX2_saidThen_0 rfl ?_
  refine fk_getR' X fd_1_17 q1543 dX2_saidThen_1 hf (fun z1 hf => ?_)
  refine fk_iload_n X 1 dX2_saidThen_4 rfl ?_
  refine fk_iaload' X dX2_saidThen_5 hf (fun z2 hf => ?_)
  refine fk_istore X [(4, tI z2), (0, tR a0), (1, tI a1), (2, tI a2), (3, tI a3)] dX2_saidThen_6 rfl rfl ?_
  refine fk_iconst (v := 1) X dX2_saidThen_8 rfl ?_
  refine fk_istore X [(5, tI 1), (4, tI z2), (0, tR a0), (1, tI a1), (2, tI a2), (3, tI a3)] dX2_saidThen_9 rfl rfl ?_
  exact fk_cut' (w_X2_saidThen_L11 X Y a0 a1 a2 a3 fk_fuel z2 1 hf) [2, 3, 4, 5, 1, 0] rfl
/-! FigureKneeModel wrongBy (I)I -/
theorem n_X2_wrongBy : fk_N yX2_wrongBy 1 := ⟨by decide +kernel, by decide +kernel, by decide +kernel, by decide +kernel⟩
def f_X2_wrongBy_L2 (x0 : Option Nat) (x1 : Int32) (m : fk_M) : Nat → Int32 → Option Int32
  | 0, _ => none
  | N + 1, x2 =>
  (gR m x0 1 15).bind fun z1 => (aI m z1 0 6).bind fun z2 => if z2 ≤ x2 then (some (-2)) else ((gR m x0 1 15).bind fun z3 => (aI m z3 0 (26 + (3 * x2))).bind fun z4 => (gR m x0 1 15).bind fun z5 => (aI m z5 0 ((26 + (3 * x2)) + 1)).bind fun z6 => (isO m x0 1).bind fun u7 => (f_X2_saidThen x0 z4 z6 x1 m).bind fun z8 => (gR m x0 1 15).bind fun z9 => (aI m z9 0 ((26 + (3 * x2)) + 2)).bind fun z10 => if z8 = z10 then (f_X2_wrongBy_L2 x0 x1 m N (x2 + 1)) else (some x2))
set_option maxHeartbeats 4000000 in
theorem w_X2_wrongBy_L2 {E : fk_E} {l : Launch} {G : fk_G} {b0 n : Nat} {m : fk_M} {r : Int32} (X : fk_X E l G b0 "FigureKneeModel" "wrongBy" cX2_wrongBy 3 5 157 0 0) (Y : fk_Y E (some .int) (some (tI r)) n m 0 0) (x0 : Option Nat) (x1 : Int32) : ∀ (N : Nat) (x2 : Int32), f_X2_wrongBy_L2 x0 x1 m N x2 = some r → fk_W E 3 n m 0 0 2 [(0, tR x0), (1, tI x1), (2, tI x2)] [] := by
  intro N
  induction N with
  | zero =>
    intro x2 hf
    have hf : (none : Option Int32) = some _ := hf
    cases hf
  | succ N ih =>
    intro x2 hf
    rw [f_X2_wrongBy_L2] at hf
    refine fk_iload_n X 2 dX2_wrongBy_2 rfl ?_
    refine fk_aload_n X 0 dX2_wrongBy_3 rfl ?_
    refine fk_getR' X fd_1_15 q1541 dX2_wrongBy_4 hf (fun z1 hf => ?_)
    refine fk_bipush (v := 6) X dX2_wrongBy_7 rfl ?_
    refine fk_iaload' X dX2_wrongBy_9 hf (fun z2 hf => ?_)
    refine fk_icmp_ge' X 66 dX2_wrongBy_10 rfl hf (fun hf => ?_) (fun hf => ?_)
    · refine fk_bipush (v := (-2)) X dX2_wrongBy_66 rfl ?_
      cases hf
      exact fk_ireturn X Y dX2_wrongBy_68 rfl
    · refine fk_aload_n X 0 dX2_wrongBy_13 rfl ?_
      refine fk_aload_n X 0 dX2_wrongBy_14 rfl ?_
      refine fk_getR' X fd_1_15 q1541 dX2_wrongBy_15 hf (fun z3 hf => ?_)
      refine fk_bipush (v := 26) X dX2_wrongBy_18 rfl ?_
      refine fk_iconst (v := 3) X dX2_wrongBy_20 rfl ?_
      refine fk_iload_n X 2 dX2_wrongBy_21 rfl ?_
      refine fk_imul X dX2_wrongBy_22 ?_
      refine fk_iadd X dX2_wrongBy_23 ?_
      refine fk_iaload' X dX2_wrongBy_24 hf (fun z4 hf => ?_)
      refine fk_aload_n X 0 dX2_wrongBy_25 rfl ?_
      refine fk_getR' X fd_1_15 q1541 dX2_wrongBy_26 hf (fun z5 hf => ?_)
      refine fk_bipush (v := 26) X dX2_wrongBy_29 rfl ?_
      refine fk_iconst (v := 3) X dX2_wrongBy_31 rfl ?_
      refine fk_iload_n X 2 dX2_wrongBy_32 rfl ?_
      refine fk_imul X dX2_wrongBy_33 ?_
      refine fk_iadd X dX2_wrongBy_34 ?_
      refine fk_iconst (v := 1) X dX2_wrongBy_35 rfl ?_
      refine fk_iadd X dX2_wrongBy_36 ?_
      refine fk_iaload' X dX2_wrongBy_37 hf (fun z6 hf => ?_)
      refine fk_iload_n X 1 dX2_wrongBy_38 rfl ?_
      obtain ⟨u7, hq, hf⟩ := bI hf
      obtain ⟨z8, hv, hf⟩ := bI hf
      refine fk_callV0I (ci := 1) (rest := []) X hq rfl (c_X2_saidThen hv) n_X2_saidThen q1977 q1979 qs105 q126 q1980 rfl dX2_wrongBy_39 rfl rfl rfl rfl rfl (Nat.le_refl _) (Nat.le_refl _) ?_
      refine fk_aload_n X 0 dX2_wrongBy_42 rfl ?_
      refine fk_getR' X fd_1_15 q1541 dX2_wrongBy_43 hf (fun z9 hf => ?_)
      refine fk_bipush (v := 26) X dX2_wrongBy_46 rfl ?_
      refine fk_iconst (v := 3) X dX2_wrongBy_48 rfl ?_
      refine fk_iload_n X 2 dX2_wrongBy_49 rfl ?_
      refine fk_imul X dX2_wrongBy_50 ?_
      refine fk_iadd X dX2_wrongBy_51 ?_
      refine fk_iconst (v := 2) X dX2_wrongBy_52 rfl ?_
      refine fk_iadd X dX2_wrongBy_53 ?_
      refine fk_iaload' X dX2_wrongBy_54 hf (fun z10 hf => ?_)
      refine fk_icmp_eq' X 60 dX2_wrongBy_55 rfl hf (fun hf => ?_) (fun hf => ?_)
      · refine fk_iinc X 2 [(2, tI (x2 + 1)), (0, tR x0), (1, tI x1)] dX2_wrongBy_60 rfl rfl rfl rfl ?_
        refine fk_goto X 2 dX2_wrongBy_63 rfl ?_
        exact fk_cut' (ih (x2 + 1)  hf) [1, 2, 0] rfl
      · refine fk_iload_n X 2 dX2_wrongBy_58 rfl ?_
        cases hf
        exact fk_ireturn X Y dX2_wrongBy_59 rfl
def f_X2_wrongBy (a0 : Option Nat) (a1 : Int32) (m : fk_M) : Option Int32 :=
  f_X2_wrongBy_L2 a0 a1 m fk_fuel 0
set_option maxHeartbeats 4000000 in
theorem c_X2_wrongBy {l : Launch} {G : fk_G} {b0 : Nat} {n : Nat} {a0 : Option Nat} {a1 : Int32} {m : fk_M} {r : Int32} (hf : f_X2_wrongBy a0 a1 m = some r) : fk_Ct l G b0 yX2_wrongBy cX2_wrongBy 3 (some .int) 5 157 [tR a0, tI a1] n m (some (tI r)) n m 0 0 := by
  refine fk_enter n_X2_wrongBy.1 rfl ?_
  intro E X0 Y
  have X : fk_X E l G b0 "FigureKneeModel" "wrongBy" cX2_wrongBy 3 5 157 0 0 := X0
  show fk_W E 3 n m 0 0 0 [(0, tR a0), (1, tI a1)] []
  unfold f_X2_wrongBy at hf
  refine fk_iconst (v := 0) X dX2_wrongBy_0 rfl ?_
  refine fk_istore_n X [(2, tI 0), (0, tR a0), (1, tI a1)] dX2_wrongBy_1 rfl rfl ?_
  exact fk_cut' (w_X2_wrongBy_L2 X Y a0 a1 fk_fuel 0 hf) [1, 2, 0] rfl
/-! FigureKneeModel seekSets (I)I -/
theorem n_X2_seekSets : fk_N yX2_seekSets 1 := ⟨by decide +kernel, by decide +kernel, by decide +kernel, by decide +kernel⟩
def f_X2_seekSets_J149 (R48 : Int32 → Int32 → fk_M → Option (Int32 × fk_M)) (x0 : Option Nat) (x1 : Int32) (x2 : Int32) (x3 : Int32) (m0 : fk_M) : Option (Int32 × fk_M) :=
  R48 x2 (x3 + 1) m0
set_option maxHeartbeats 4000000 in
theorem w_X2_seekSets_J149 {E : fk_E} {l : Launch} {G : fk_G} {b0 n : Nat} {r : Int32} {mF : fk_M} (X : fk_X E l G b0 "FigureKneeModel" "seekSets" cX2_seekSets 5 6 179 0 0) (Y : fk_Y E (some .int) (some (tI r)) n mF 0 0) (x0 : Option Nat) (x1 : Int32) (x2 : Int32) (x3 : Int32)  (m0 : fk_M) {R48 : Int32 → Int32 → fk_M → Option (Int32 × fk_M)} (hR48 : ∀ (v2 : Int32) (v3 : Int32) (m9 : fk_M), R48 v2 v3 m9 = some (r, mF) → fk_W E 5 n m9 0 0 48 [(0, tR x0), (1, tI x1), (2, tI v2), (3, tI v3)] []) (hf : f_X2_seekSets_J149 R48 x0 x1 x2 x3 m0 = some (r, mF)) : fk_W E 5 n m0 0 0 149 [(0, tR x0), (1, tI x1), (2, tI x2), (3, tI x3)] [] := by
  unfold f_X2_seekSets_J149 at hf
  refine fk_iinc X 3 [(3, tI (x3 + 1)), (0, tR x0), (1, tI x1), (2, tI x2)] dX2_seekSets_149 rfl rfl rfl rfl ?_
  refine fk_goto X 48 dX2_seekSets_152 rfl ?_
  exact fk_cut' (hR48 x2 (x3 + 1) m0  hf) [1, 2, 3, 0] rfl
def f_X2_seekSets_L116 (R48 : Int32 → Int32 → fk_M → Option (Int32 × fk_M)) (x0 : Option Nat) (x1 : Int32) (x2 : Int32) (x3 : Int32) : Nat → Int32 → fk_M → Option (Int32 × fk_M)
  | 0, _, _ => none
  | N + 1, x4, m0 =>
  (gR m0 x0 1 15).bind fun z1 => (aI m0 z1 0 5).bind fun z2 => if z2 ≤ x4 then (f_X2_seekSets_J149 R48 x0 x1 x2 x3 m0) else ((gR m0 x0 1 30).bind fun z3 => (aI m0 z3 0 x4).bind fun z4 => (sI m0 z3 0 x4 (z4 + ((i_shr x3 x4) &&& 1))).bind fun m5 => f_X2_seekSets_L116 R48 x0 x1 x2 x3 N (x4 + 1) m5)
set_option maxHeartbeats 4000000 in
theorem w_X2_seekSets_L116 {E : fk_E} {l : Launch} {G : fk_G} {b0 n : Nat} {r : Int32} {mF : fk_M} (X : fk_X E l G b0 "FigureKneeModel" "seekSets" cX2_seekSets 5 6 179 0 0) (Y : fk_Y E (some .int) (some (tI r)) n mF 0 0) (x0 : Option Nat) (x1 : Int32) (x2 : Int32) (x3 : Int32) {R48 : Int32 → Int32 → fk_M → Option (Int32 × fk_M)} (hR48 : ∀ (v2 : Int32) (v3 : Int32) (m9 : fk_M), R48 v2 v3 m9 = some (r, mF) → fk_W E 5 n m9 0 0 48 [(0, tR x0), (1, tI x1), (2, tI v2), (3, tI v3)] []) : ∀ (N : Nat) (x4 : Int32) (m0 : fk_M), f_X2_seekSets_L116 R48 x0 x1 x2 x3 N x4 m0 = some (r, mF) → fk_W E 5 n m0 0 0 116 [(0, tR x0), (1, tI x1), (2, tI x2), (3, tI x3), (4, tI x4)] [] := by
  intro N
  induction N with
  | zero =>
    intro x4 m0 hf
    have hf : (none : Option (Int32 × fk_M)) = some _ := hf
    cases hf
  | succ N ih =>
    intro x4 m0 hf
    rw [f_X2_seekSets_L116] at hf
    refine fk_iload X 4 dX2_seekSets_116 rfl ?_
    refine fk_aload_n X 0 dX2_seekSets_118 rfl ?_
    refine fk_getR' X fd_1_15 q1541 dX2_seekSets_119 hf (fun z1 hf => ?_)
    refine fk_iconst (v := 5) X dX2_seekSets_122 rfl ?_
    refine fk_iaload' X dX2_seekSets_123 hf (fun z2 hf => ?_)
    refine fk_icmp_ge' X 149 dX2_seekSets_124 rfl hf (fun hf => ?_) (fun hf => ?_)
    · exact fk_cut' (w_X2_seekSets_J149 X Y x0 x1 x2 x3 m0 hR48 hf) [0, 1, 2, 3] rfl
    · refine fk_aload_n X 0 dX2_seekSets_127 rfl ?_
      refine fk_getR' X fd_1_30 q1556 dX2_seekSets_128 hf (fun z3 hf => ?_)
      refine fk_iload X 4 dX2_seekSets_131 rfl ?_
      refine fk_dup2 X dX2_seekSets_133 rfl rfl ?_
      refine fk_iaload' X dX2_seekSets_134 hf (fun z4 hf => ?_)
      refine fk_iload_n X 3 dX2_seekSets_135 rfl ?_
      refine fk_iload X 4 dX2_seekSets_136 rfl ?_
      refine fk_ishr X dX2_seekSets_138 ?_
      refine fk_iconst (v := 1) X dX2_seekSets_139 rfl ?_
      refine fk_iand X dX2_seekSets_140 ?_
      refine fk_iadd X dX2_seekSets_141 ?_
      refine fk_iastore' X dX2_seekSets_142 hf (fun m5 hf => ?_)
      refine fk_iinc X 4 [(4, tI (x4 + 1)), (0, tR x0), (1, tI x1), (2, tI x2), (3, tI x3)] dX2_seekSets_143 rfl rfl rfl rfl ?_
      refine fk_goto X 116 dX2_seekSets_146 rfl ?_
      exact fk_cut' (ih (x4 + 1) m5  hf) [1, 2, 3, 4, 0] rfl
def f_X2_seekSets_L48 (x0 : Option Nat) (x1 : Int32) : Nat → Int32 → Int32 → fk_M → Option (Int32 × fk_M)
  | 0, _, _, _ => none
  | N + 1, x2, x3, m0 =>
  (gR m0 x0 1 15).bind fun z1 => (aI m0 z1 0 5).bind fun z2 => if (i_shl 1 z2) ≤ x3 then ((gI m0 x0 1 31).bind fun z3 => if z3 = 0 then ((pV m0 x0 1 33 (tI 0)).bind fun m4 => some (x2, m4)) else (some (x2, m0))) else ((isO m0 x0 1).bind fun u5 => (f_X2_wrongBy x0 x3 m0).bind fun z6 => if z6 = (-2) then ((gI m0 x0 1 31).bind fun z7 => (gI m0 x0 1 31).bind fun z8 => (pV m0 x0 1 31 (tI (z8 + 1))).bind fun m9 => (gI m9 x0 1 32).bind fun z10 => (pV m9 x0 1 32 (tI (z10 ||| x3))).bind fun m11 => (gI m11 x0 1 33).bind fun z12 => (pV m11 x0 1 33 (tI (z12 &&& x3))).bind fun m13 => f_X2_seekSets_L116 (f_X2_seekSets_L48 x0 x1 N) x0 x1 (if z7 = x1 then x3 else x2) x3 fk_fuel 0 m13) else (f_X2_seekSets_J149 (f_X2_seekSets_L48 x0 x1 N) x0 x1 x2 x3 m0))
set_option maxHeartbeats 4000000 in
theorem w_X2_seekSets_L48 {E : fk_E} {l : Launch} {G : fk_G} {b0 n : Nat} {r : Int32} {mF : fk_M} (X : fk_X E l G b0 "FigureKneeModel" "seekSets" cX2_seekSets 5 6 179 0 0) (Y : fk_Y E (some .int) (some (tI r)) n mF 0 0) (x0 : Option Nat) (x1 : Int32) : ∀ (N : Nat) (x2 : Int32) (x3 : Int32) (m0 : fk_M), f_X2_seekSets_L48 x0 x1 N x2 x3 m0 = some (r, mF) → fk_W E 5 n m0 0 0 48 [(0, tR x0), (1, tI x1), (2, tI x2), (3, tI x3)] [] := by
  intro N
  induction N with
  | zero =>
    intro x2 x3 m0 hf
    have hf : (none : Option (Int32 × fk_M)) = some _ := hf
    cases hf
  | succ N ih =>
    intro x2 x3 m0 hf
    rw [f_X2_seekSets_L48] at hf
    refine fk_iload_n X 3 dX2_seekSets_48 rfl ?_
    refine fk_iconst (v := 1) X dX2_seekSets_49 rfl ?_
    refine fk_aload_n X 0 dX2_seekSets_50 rfl ?_
    refine fk_getR' X fd_1_15 q1541 dX2_seekSets_51 hf (fun z1 hf => ?_)
    refine fk_iconst (v := 5) X dX2_seekSets_54 rfl ?_
    refine fk_iaload' X dX2_seekSets_55 hf (fun z2 hf => ?_)
    refine fk_ishl X dX2_seekSets_56 ?_
    refine fk_icmp_ge' X 155 dX2_seekSets_57 rfl hf (fun hf => ?_) (fun hf => ?_)
    · refine fk_aload_n X 0 dX2_seekSets_155 rfl ?_
      refine fk_getI' X fd_1_31 q1557 dX2_seekSets_156 hf (fun z3 hf => ?_)
      refine fk_if_ne' X 167 dX2_seekSets_159 rfl hf (fun hf => ?_) (fun hf => ?_)
      · refine fk_iload_n X 2 dX2_seekSets_167 rfl ?_
        cases hf
        exact fk_ireturn X Y dX2_seekSets_168 rfl
      · refine fk_aload_n X 0 dX2_seekSets_162 rfl ?_
        refine fk_iconst (v := 0) X dX2_seekSets_163 rfl ?_
        refine fk_putI' X fd_1_33 q1559 dX2_seekSets_164 (fit_I _) hf (fun m4 hf => ?_)
        refine fk_iload_n X 2 dX2_seekSets_167 rfl ?_
        cases hf
        exact fk_ireturn X Y dX2_seekSets_168 rfl
    · refine fk_aload_n X 0 dX2_seekSets_60 rfl ?_
      refine fk_iload_n X 3 dX2_seekSets_61 rfl ?_
      obtain ⟨u5, hq, hf⟩ := bI hf
      obtain ⟨z6, hv, hf⟩ := bI hf
      refine fk_callV0I (ci := 1) (rest := []) X hq rfl (c_X2_wrongBy hv) n_X2_wrongBy q1973 q1975 qs104 q126 q1976 rfl dX2_seekSets_62 rfl rfl rfl rfl rfl (Nat.le_refl _) (Nat.le_refl _) ?_
      refine fk_bipush (v := (-2)) X dX2_seekSets_65 rfl ?_
      refine fk_icmp_eq' X 73 dX2_seekSets_67 rfl hf (fun hf => ?_) (fun hf => ?_)
      · refine fk_aload_n X 0 dX2_seekSets_73 rfl ?_
        refine fk_getI' X fd_1_31 q1557 dX2_seekSets_74 hf (fun z7 hf => ?_)
        refine fk_iload_n X 1 dX2_seekSets_77 rfl ?_
        have J1 : fk_W E 5 n m0 0 0 83 [(2, tI (if z7 = x1 then x3 else x2)), (0, tR x0), (1, tI x1), (3, tI x3)] [] := by
          refine fk_aload_n X 1 dX2_seekSets_83 rfl ?_
          refine fk_dup X dX2_seekSets_84 rfl ?_
          refine fk_getI' X fd_1_31 q1557 dX2_seekSets_85 hf (fun z8 hf => ?_)
          refine fk_iconst (v := 1) X dX2_seekSets_88 rfl ?_
          refine fk_iadd X dX2_seekSets_89 ?_
          refine fk_putI' X fd_1_31 q1557 dX2_seekSets_90 (fit_I _) hf (fun m9 hf => ?_)
          refine fk_aload_n X 1 dX2_seekSets_93 rfl ?_
          refine fk_dup X dX2_seekSets_94 rfl ?_
          refine fk_getI' X fd_1_32 q1558 dX2_seekSets_95 hf (fun z10 hf => ?_)
          refine fk_iload_n X 3 dX2_seekSets_98 rfl ?_
          refine fk_ior X dX2_seekSets_99 ?_
          refine fk_putI' X fd_1_32 q1558 dX2_seekSets_100 (fit_I _) hf (fun m11 hf => ?_)
          refine fk_aload_n X 1 dX2_seekSets_103 rfl ?_
          refine fk_dup X dX2_seekSets_104 rfl ?_
          refine fk_getI' X fd_1_33 q1559 dX2_seekSets_105 hf (fun z12 hf => ?_)
          refine fk_iload_n X 3 dX2_seekSets_108 rfl ?_
          refine fk_iand X dX2_seekSets_109 ?_
          refine fk_putI' X fd_1_33 q1559 dX2_seekSets_110 (fit_I _) hf (fun m13 hf => ?_)
          refine fk_iconst (v := 0) X dX2_seekSets_113 rfl ?_
          refine fk_istore X [(4, tI 0), (2, tI (if z7 = x1 then x3 else x2)), (0, tR x0), (1, tI x1), (3, tI x3)] dX2_seekSets_114 rfl rfl ?_
          exact fk_cut' (w_X2_seekSets_L116 X Y x0 x1 (if z7 = x1 then x3 else x2) x3 ih fk_fuel 0 m13 hf) [2, 3, 1, 4, 0] rfl
        refine fk_icmp_ne X 83 dX2_seekSets_78 rfl (fun hc2 => ?_) (fun hc2 => ?_)
        · simp only [if_neg hc2] at J1
          exact fk_cut' J1 [2, 0, 1, 3] rfl
        · refine fk_iload_n X 3 dX2_seekSets_81 rfl ?_
          refine fk_istore_n X [(2, tI x3), (0, tR x0), (1, tI x1), (3, tI x3)] dX2_seekSets_82 rfl rfl ?_
          simp only [if_pos hc2] at J1
          exact fk_cut' J1 [0, 1, 2, 3] rfl
      · refine fk_goto X 149 dX2_seekSets_70 rfl ?_
        exact fk_cut' (w_X2_seekSets_J149 X Y x0 x1 x2 x3 m0 ih hf) [0, 1, 2, 3] rfl
def f_X2_seekSets_L28 (x0 : Option Nat) (x1 : Int32) (x2 : Int32) : Nat → Int32 → fk_M → Option (Int32 × fk_M)
  | 0, _, _ => none
  | N + 1, x3, m0 =>
  if 4 ≤ x3 then (f_X2_seekSets_L48 x0 x1 fk_fuel x2 0 m0) else ((gR m0 x0 1 30).bind fun z1 => (sI m0 z1 0 x3 0).bind fun m2 => f_X2_seekSets_L28 x0 x1 x2 N (x3 + 1) m2)
set_option maxHeartbeats 4000000 in
theorem w_X2_seekSets_L28 {E : fk_E} {l : Launch} {G : fk_G} {b0 n : Nat} {r : Int32} {mF : fk_M} (X : fk_X E l G b0 "FigureKneeModel" "seekSets" cX2_seekSets 5 6 179 0 0) (Y : fk_Y E (some .int) (some (tI r)) n mF 0 0) (x0 : Option Nat) (x1 : Int32) (x2 : Int32) : ∀ (N : Nat) (x3 : Int32) (m0 : fk_M), f_X2_seekSets_L28 x0 x1 x2 N x3 m0 = some (r, mF) → fk_W E 5 n m0 0 0 28 [(0, tR x0), (1, tI x1), (2, tI x2), (3, tI x3)] [] := by
  intro N
  induction N with
  | zero =>
    intro x3 m0 hf
    have hf : (none : Option (Int32 × fk_M)) = some _ := hf
    cases hf
  | succ N ih =>
    intro x3 m0 hf
    rw [f_X2_seekSets_L28] at hf
    refine fk_iload_n X 3 dX2_seekSets_28 rfl ?_
    refine fk_iconst (v := 4) X dX2_seekSets_29 rfl ?_
    refine fk_icmp_ge' X 46 dX2_seekSets_30 rfl hf (fun hf => ?_) (fun hf => ?_)
    · refine fk_iconst (v := 0) X dX2_seekSets_46 rfl ?_
      refine fk_istore_n X [(3, tI 0), (0, tR x0), (1, tI x1), (2, tI x2)] dX2_seekSets_47 rfl rfl ?_
      exact fk_cut' (w_X2_seekSets_L48 X Y x0 x1 fk_fuel x2 0 m0 hf) [1, 2, 3, 0] rfl
    · refine fk_aload_n X 0 dX2_seekSets_33 rfl ?_
      refine fk_getR' X fd_1_30 q1556 dX2_seekSets_34 hf (fun z1 hf => ?_)
      refine fk_iload_n X 3 dX2_seekSets_37 rfl ?_
      refine fk_iconst (v := 0) X dX2_seekSets_38 rfl ?_
      refine fk_iastore' X dX2_seekSets_39 hf (fun m2 hf => ?_)
      refine fk_iinc X 3 [(3, tI (x3 + 1)), (0, tR x0), (1, tI x1), (2, tI x2)] dX2_seekSets_40 rfl rfl rfl rfl ?_
      refine fk_goto X 28 dX2_seekSets_43 rfl ?_
      exact fk_cut' (ih (x3 + 1) m2  hf) [1, 2, 3, 0] rfl
def f_X2_seekSets (a0 : Option Nat) (a1 : Int32) (m0 : fk_M) : Option (Int32 × fk_M) :=
  (pV m0 a0 1 31 (tI 0)).bind fun m1 => (pV m1 a0 1 32 (tI 0)).bind fun m2 => (gR m2 a0 1 15).bind fun z3 => (aI m2 z3 0 5).bind fun z4 => (pV m2 a0 1 33 (tI ((i_shl 1 z4) - 1))).bind fun m5 => f_X2_seekSets_L28 a0 a1 (-1) fk_fuel 0 m5
set_option maxHeartbeats 4000000 in
theorem c_X2_seekSets {l : Launch} {G : fk_G} {b0 : Nat} {n : Nat} {a0 : Option Nat} {a1 : Int32} {m0 : fk_M} {r : Int32} {mF : fk_M} (hf : f_X2_seekSets a0 a1 m0 = some (r, mF)) : fk_Ct l G b0 yX2_seekSets cX2_seekSets 5 (some .int) 6 179 [tR a0, tI a1] n m0 (some (tI r)) n mF 0 0 := by
  refine fk_enter n_X2_seekSets.1 rfl ?_
  intro E X0 Y
  have X : fk_X E l G b0 "FigureKneeModel" "seekSets" cX2_seekSets 5 6 179 0 0 := X0
  show fk_W E 5 n m0 0 0 0 [(0, tR a0), (1, tI a1)] []
  unfold f_X2_seekSets at hf
  refine fk_iconst (v := (-1)) X dX2_seekSets_0 rfl ?_
  refine fk_istore_n X [(2, tI (-1)), (0, tR a0), (1, tI a1)] dX2_seekSets_1 rfl rfl ?_
  refine fk_aload_n X 1 dX2_seekSets_2 rfl ?_
  refine fk_iconst (v := 0) X dX2_seekSets_3 rfl ?_
  refine fk_putI' X fd_1_31 q1557 dX2_seekSets_4 (fit_I _) hf (fun m1 hf => ?_)
  refine fk_aload_n X 1 dX2_seekSets_7 rfl ?_
  refine fk_iconst (v := 0) X dX2_seekSets_8 rfl ?_
  refine fk_putI' X fd_1_32 q1558 dX2_seekSets_9 (fit_I _) hf (fun m2 hf => ?_)
  refine fk_aload_n X 1 dX2_seekSets_12 rfl ?_
  refine fk_iconst (v := 1) X dX2_seekSets_13 rfl ?_
  refine fk_aload_n X 1 dX2_seekSets_14 rfl ?_
  refine fk_getR' X fd_1_15 q1541 dX2_seekSets_15 hf (fun z3 hf => ?_)
  refine fk_iconst (v := 5) X dX2_seekSets_18 rfl ?_
  refine fk_iaload' X dX2_seekSets_19 hf (fun z4 hf => ?_)
  refine fk_ishl X dX2_seekSets_20 ?_
  refine fk_iconst (v := 1) X dX2_seekSets_21 rfl ?_
  refine fk_isub X dX2_seekSets_22 ?_
  refine fk_putI' X fd_1_33 q1559 dX2_seekSets_23 (fit_I _) hf (fun m5 hf => ?_)
  refine fk_iconst (v := 0) X dX2_seekSets_26 rfl ?_
  refine fk_istore_n X [(3, tI 0), (2, tI (-1)), (0, tR a0), (1, tI a1)] dX2_seekSets_27 rfl rfl ?_
  exact fk_cut' (w_X2_seekSets_L28 X Y a0 a1 (-1) fk_fuel 0 m5 hf) [2, 3, 1, 0] rfl
/-! FigureKneeModel fits ()I -/
theorem n_X2_fits : fk_N yX2_fits 0 := ⟨by decide +kernel, by decide +kernel, by decide +kernel, by decide +kernel⟩
def f_X2_fits (a0 : Option Nat) (m0 : fk_M) : Option (Int32 × fk_M) :=
  (isO m0 a0 1).bind fun u1 => (f_X2_good a0 m0).bind fun m2 => (gI m2 a0 1 14).bind fun z3 => if z3 = 0 then ((isO m2 a0 1).bind fun u4 => bn2 (f_X2_no a0 1 m2) fun z5 m6 => some (z5, m6)) else ((isO m2 a0 1).bind fun u7 => bn2 (f_X2_seekSets a0 (-1) m2) fun z8 m9 => (gI m9 a0 1 31).bind fun z10 => some (z10, m9))
set_option maxHeartbeats 4000000 in
theorem c_X2_fits {l : Launch} {G : fk_G} {b0 : Nat} {n : Nat} {a0 : Option Nat} {m0 : fk_M} {r : Int32} {mF : fk_M} (hf : f_X2_fits a0 m0 = some (r, mF)) : fk_Ct l G b0 yX2_fits cX2_fits 1 (some .int) 7 203 [tR a0] n m0 (some (tI r)) n mF 0 0 := by
  refine fk_enter n_X2_fits.1 rfl ?_
  intro E X0 Y
  have X : fk_X E l G b0 "FigureKneeModel" "fits" cX2_fits 1 7 203 0 0 := X0
  show fk_W E 1 n m0 0 0 0 [(0, tR a0)] []
  unfold f_X2_fits at hf
  refine fk_aload_n X 0 dX2_fits_0 rfl ?_
  obtain ⟨u1, hq, hf⟩ := bI hf
  obtain ⟨m2, hv, hf⟩ := bI hf
  refine fk_callV0V (ci := 1) (rest := []) X hq rfl (c_X2_good hv) n_X2_good q1665 q1667 qs63 q126 q1668 rfl dX2_fits_1 rfl rfl rfl rfl rfl (Nat.le_refl _) (Nat.le_refl _) ?_
  refine fk_aload_n X 0 dX2_fits_4 rfl ?_
  refine fk_getI' X fd_1_14 q1540 dX2_fits_5 hf (fun z3 hf => ?_)
  refine fk_if_ne' X 17 dX2_fits_8 rfl hf (fun hf => ?_) (fun hf => ?_)
  · refine fk_aload_n X 0 dX2_fits_17 rfl ?_
    refine fk_iconst (v := (-1)) X dX2_fits_18 rfl ?_
    obtain ⟨u7, hq, hf⟩ := bI hf
    obtain ⟨z8, m9, hv, hf⟩ := bn2_eq hf
    refine fk_callV0I (ci := 1) (rest := []) X hq rfl (c_X2_seekSets hv) n_X2_seekSets q1969 q1971 qs103 q126 q1972 rfl dX2_fits_19 rfl rfl rfl rfl rfl (Nat.le_refl _) (Nat.le_refl _) ?_
    refine fk_pop X dX2_fits_22 rfl ?_
    refine fk_aload_n X 0 dX2_fits_23 rfl ?_
    refine fk_getI' X fd_1_31 q1557 dX2_fits_24 hf (fun z10 hf => ?_)
    cases hf
    exact fk_ireturn X Y dX2_fits_27 rfl
  · refine fk_aload_n X 0 dX2_fits_11 rfl ?_
    refine fk_iconst (v := 1) X dX2_fits_12 rfl ?_
    obtain ⟨u4, hq, hf⟩ := bI hf
    obtain ⟨z5, m6, hv, hf⟩ := bn2_eq hf
    refine fk_callV0I (ci := 1) (rest := []) X hq rfl (c_X2_no hv) n_X2_no q1672 q1674 qs64 q126 q1675 rfl dX2_fits_13 rfl rfl rfl rfl rfl (Nat.le_refl _) (Nat.le_refl _) ?_
    cases hf
    exact fk_ireturn X Y dX2_fits_16 rfl
/-! FigureKneeModel fitAt (I)I -/
theorem n_X2_fitAt : fk_N yX2_fitAt 1 := ⟨by decide +kernel, by decide +kernel, by decide +kernel, by decide +kernel⟩
def f_X2_fitAt_J15 (x0 : Option Nat) (m0 : fk_M) : Option (Int32 × fk_M) :=
  (isO m0 x0 1).bind fun u1 => bn2 (f_X2_no x0 1 m0) fun z2 m3 => some (z2, m3)
set_option maxHeartbeats 4000000 in
theorem w_X2_fitAt_J15 {E : fk_E} {l : Launch} {G : fk_G} {b0 n : Nat} {r : Int32} {mF : fk_M} (X : fk_X E l G b0 "FigureKneeModel" "fitAt" cX2_fitAt 3 7 203 0 0) (Y : fk_Y E (some .int) (some (tI r)) n mF 0 0) (x0 : Option Nat)  (m0 : fk_M) (hf : f_X2_fitAt_J15 x0 m0 = some (r, mF)) : fk_W E 3 n m0 0 0 15 [(0, tR x0)] [] := by
  unfold f_X2_fitAt_J15 at hf
  refine fk_aload_n X 0 dX2_fitAt_15 rfl ?_
  refine fk_iconst (v := 1) X dX2_fitAt_16 rfl ?_
  obtain ⟨u1, hq, hf⟩ := bI hf
  obtain ⟨z2, m3, hv, hf⟩ := bn2_eq hf
  refine fk_callV0I (ci := 1) (rest := []) X hq rfl (c_X2_no hv) n_X2_no q1672 q1674 qs64 q126 q1675 rfl dX2_fitAt_17 rfl rfl rfl rfl rfl (Nat.le_refl _) (Nat.le_refl _) ?_
  cases hf
  exact fk_ireturn X Y dX2_fitAt_20 rfl
def f_X2_fitAt (a0 : Option Nat) (a1 : Int32) (m0 : fk_M) : Option (Int32 × fk_M) :=
  (isO m0 a0 1).bind fun u1 => (f_X2_good a0 m0).bind fun m2 => (gI m2 a0 1 14).bind fun z3 => if z3 = 0 then (f_X2_fitAt_J15 a0 m2) else (if 0 ≤ a1 then ((isO m2 a0 1).bind fun u4 => bn2 (f_X2_seekSets a0 a1 m2) fun z5 m6 => if 0 ≤ z5 then (some (z5, m6)) else ((isO m6 a0 1).bind fun u7 => bn2 (f_X2_no a0 1 m6) fun z8 m9 => some (z8, m9))) else (f_X2_fitAt_J15 a0 m2))
set_option maxHeartbeats 4000000 in
theorem c_X2_fitAt {l : Launch} {G : fk_G} {b0 : Nat} {n : Nat} {a0 : Option Nat} {a1 : Int32} {m0 : fk_M} {r : Int32} {mF : fk_M} (hf : f_X2_fitAt a0 a1 m0 = some (r, mF)) : fk_Ct l G b0 yX2_fitAt cX2_fitAt 3 (some .int) 7 203 [tR a0, tI a1] n m0 (some (tI r)) n mF 0 0 := by
  refine fk_enter n_X2_fitAt.1 rfl ?_
  intro E X0 Y
  have X : fk_X E l G b0 "FigureKneeModel" "fitAt" cX2_fitAt 3 7 203 0 0 := X0
  show fk_W E 3 n m0 0 0 0 [(0, tR a0), (1, tI a1)] []
  unfold f_X2_fitAt at hf
  refine fk_aload_n X 0 dX2_fitAt_0 rfl ?_
  obtain ⟨u1, hq, hf⟩ := bI hf
  obtain ⟨m2, hv, hf⟩ := bI hf
  refine fk_callV0V (ci := 1) (rest := []) X hq rfl (c_X2_good hv) n_X2_good q1665 q1667 qs63 q126 q1668 rfl dX2_fitAt_1 rfl rfl rfl rfl rfl (Nat.le_refl _) (Nat.le_refl _) ?_
  refine fk_aload_n X 0 dX2_fitAt_4 rfl ?_
  refine fk_getI' X fd_1_14 q1540 dX2_fitAt_5 hf (fun z3 hf => ?_)
  refine fk_if_eq' X 15 dX2_fitAt_8 rfl hf (fun hf => ?_) (fun hf => ?_)
  · exact fk_cut' (w_X2_fitAt_J15 X Y a0 m2 hf) [0] rfl
  · refine fk_iload_n X 1 dX2_fitAt_11 rfl ?_
    refine fk_if_ge' X 21 dX2_fitAt_12 rfl hf (fun hf => ?_) (fun hf => ?_)
    · refine fk_aload_n X 0 dX2_fitAt_21 rfl ?_
      refine fk_iload_n X 1 dX2_fitAt_22 rfl ?_
      obtain ⟨u4, hq, hf⟩ := bI hf
      obtain ⟨z5, m6, hv, hf⟩ := bn2_eq hf
      refine fk_callV0I (ci := 1) (rest := []) X hq rfl (c_X2_seekSets hv) n_X2_seekSets q1969 q1971 qs103 q126 q1972 rfl dX2_fitAt_23 rfl rfl rfl rfl rfl (Nat.le_refl _) (Nat.le_refl _) ?_
      refine fk_istore_n X [(2, tI z5), (0, tR a0), (1, tI a1)] dX2_fitAt_26 rfl rfl ?_
      refine fk_iload_n X 0 dX2_fitAt_27 rfl ?_
      refine fk_if_ge' X 39 dX2_fitAt_28 rfl hf (fun hf => ?_) (fun hf => ?_)
      · refine fk_iload_n X 0 dX2_fitAt_39 rfl ?_
        cases hf
        exact fk_ireturn X Y dX2_fitAt_40 rfl
      · refine fk_aload_n X 1 dX2_fitAt_31 rfl ?_
        refine fk_iconst (v := 1) X dX2_fitAt_32 rfl ?_
        obtain ⟨u7, hq, hf⟩ := bI hf
        obtain ⟨z8, m9, hv, hf⟩ := bn2_eq hf
        refine fk_callV0I (ci := 1) (rest := []) X hq rfl (c_X2_no hv) n_X2_no q1672 q1674 qs64 q126 q1675 rfl dX2_fitAt_33 rfl rfl rfl rfl rfl (Nat.le_refl _) (Nat.le_refl _) ?_
        refine fk_goto X 40 dX2_fitAt_36 rfl ?_
        cases hf
        exact fk_ireturn X Y dX2_fitAt_40 rfl
    · exact fk_cut' (w_X2_fitAt_J15 X Y a0 m2 hf) [0] rfl
