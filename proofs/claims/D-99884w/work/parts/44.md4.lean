set_option maxRecDepth 100000
/-! FigureKneeModel lookWhy (ZII)I -/
theorem n_X2_lookWhy : fk_N yX2_lookWhy 3 := ⟨by decide +kernel, by decide +kernel, by decide +kernel, by decide +kernel⟩
def f_X2_lookWhy_L59 (x0 : Option Nat) (x3 : Int32) : Nat → Int32 → Int32 → fk_M → Option (Int32 × fk_M)
  | 0, _, _, _ => none
  | N + 1, x4, x5, m0 =>
  if x3 ≤ x5 then (some (0, m0)) else ((gR m0 x0 1 38).bind fun z1 => (gR m0 x0 1 15).bind fun z2 => (aI m0 z2 0 2).bind fun z3 => if z3 = 0 then none else ((aI m0 z1 0 (i_rem (i_rem ((75 * x4) + 74) 65537) z3)).bind fun z4 => (sI m0 z1 0 (i_rem (i_rem ((75 * x4) + 74) 65537) z3) (z4 + 1)).bind fun m5 => f_X2_lookWhy_L59 x0 x3 N (i_rem ((75 * x4) + 74) 65537) (x5 + 1) m5))
set_option maxHeartbeats 4000000 in
theorem w_X2_lookWhy_L59 {E : fk_E} {l : Launch} {G : fk_G} {b0 n : Nat} {r : Int32} {mF : fk_M} (X : fk_X E l G b0 "FigureKneeModel" "lookWhy" cX2_lookWhy 6 2 82 0 0) (Y : fk_Y E (some .int) (some (tI r)) n mF 0 0) (x0 : Option Nat) (x3 : Int32) : ∀ (N : Nat) (x4 : Int32) (x5 : Int32) (m0 : fk_M), f_X2_lookWhy_L59 x0 x3 N x4 x5 m0 = some (r, mF) → fk_W E 6 n m0 0 0 59 [(0, tR x0), (3, tI x3), (4, tI x4), (5, tI x5)] [] := by
  intro N
  induction N with
  | zero =>
    intro x4 x5 m0 hf
    have hf : (none : Option (Int32 × fk_M)) = some _ := hf
    cases hf
  | succ N ih =>
    intro x4 x5 m0 hf
    rw [f_X2_lookWhy_L59] at hf
    refine fk_iload X 3 dX2_lookWhy_59 rfl ?_
    refine fk_iload_n X 1 dX2_lookWhy_61 rfl ?_
    refine fk_icmp_ge' X 103 dX2_lookWhy_62 rfl hf (fun hf => ?_) (fun hf => ?_)
    · refine fk_iconst (v := 0) X dX2_lookWhy_103 rfl ?_
      cases hf
      exact fk_ireturn X Y dX2_lookWhy_104 rfl
    · refine fk_bipush (v := 75) X dX2_lookWhy_65 rfl ?_
      refine fk_iload X 2 dX2_lookWhy_67 rfl ?_
      refine fk_imul X dX2_lookWhy_69 ?_
      refine fk_bipush (v := 74) X dX2_lookWhy_70 rfl ?_
      refine fk_iadd X dX2_lookWhy_72 ?_
      refine fk_ldcw X q2120 dX2_lookWhy_73 ?_
      refine fk_irem X dX2_lookWhy_76 (by decide) ?_
      refine fk_istore X [(4, tI (i_rem ((75 * x4) + 74) 65537)), (0, tR x0), (3, tI x3), (5, tI x5)] dX2_lookWhy_77 rfl rfl ?_
      refine fk_aload_n X 1 dX2_lookWhy_79 rfl ?_
      refine fk_getR' X fd_1_38 q1564 dX2_lookWhy_80 hf (fun z1 hf => ?_)
      refine fk_iload X 0 dX2_lookWhy_83 rfl ?_
      refine fk_aload_n X 1 dX2_lookWhy_85 rfl ?_
      refine fk_getR' X fd_1_15 q1541 dX2_lookWhy_86 hf (fun z2 hf => ?_)
      refine fk_iconst (v := 2) X dX2_lookWhy_89 rfl ?_
      refine fk_iaload' X dX2_lookWhy_90 hf (fun z3 hf => ?_)
      refine fk_irem' X dX2_lookWhy_91 hf (fun hf => ?_)
      refine fk_dup2 X dX2_lookWhy_92 rfl rfl ?_
      refine fk_iaload' X dX2_lookWhy_93 hf (fun z4 hf => ?_)
      refine fk_iconst (v := 1) X dX2_lookWhy_94 rfl ?_
      refine fk_iadd X dX2_lookWhy_95 ?_
      refine fk_iastore' X dX2_lookWhy_96 hf (fun m5 hf => ?_)
      refine fk_iinc X 3 [(5, tI (x5 + 1)), (4, tI (i_rem ((75 * x4) + 74) 65537)), (0, tR x0), (3, tI x3)] dX2_lookWhy_97 rfl rfl rfl rfl ?_
      refine fk_goto X 59 dX2_lookWhy_100 rfl ?_
      exact fk_cut' (ih (i_rem ((75 * x4) + 74) 65537) (x5 + 1) m5  hf) [2, 3, 1, 0] rfl
def f_X2_lookWhy_L33 (x0 : Option Nat) (x2 : Int32) (x3 : Int32) : Nat → Int32 → fk_M → Option (Int32 × fk_M)
  | 0, _, _ => none
  | N + 1, x4, m0 =>
  if 5 ≤ x4 then (f_X2_lookWhy_L59 x0 x3 fk_fuel x2 0 m0) else ((gR m0 x0 1 38).bind fun z1 => (sI m0 z1 0 x4 0).bind fun m2 => f_X2_lookWhy_L33 x0 x2 x3 N (x4 + 1) m2)
set_option maxHeartbeats 4000000 in
theorem w_X2_lookWhy_L33 {E : fk_E} {l : Launch} {G : fk_G} {b0 n : Nat} {r : Int32} {mF : fk_M} (X : fk_X E l G b0 "FigureKneeModel" "lookWhy" cX2_lookWhy 6 2 82 0 0) (Y : fk_Y E (some .int) (some (tI r)) n mF 0 0) (x0 : Option Nat) (x2 : Int32) (x3 : Int32) : ∀ (N : Nat) (x4 : Int32) (m0 : fk_M), f_X2_lookWhy_L33 x0 x2 x3 N x4 m0 = some (r, mF) → fk_W E 6 n m0 0 0 33 [(0, tR x0), (2, tI x2), (3, tI x3), (4, tI x4)] [] := by
  intro N
  induction N with
  | zero =>
    intro x4 m0 hf
    have hf : (none : Option (Int32 × fk_M)) = some _ := hf
    cases hf
  | succ N ih =>
    intro x4 m0 hf
    rw [f_X2_lookWhy_L33] at hf
    refine fk_iload X 3 dX2_lookWhy_33 rfl ?_
    refine fk_iconst (v := 5) X dX2_lookWhy_35 rfl ?_
    refine fk_icmp_ge' X 53 dX2_lookWhy_36 rfl hf (fun hf => ?_) (fun hf => ?_)
    · refine fk_iload_n X 1 dX2_lookWhy_53 rfl ?_
      refine fk_istore X [(4, tI x2), (0, tR x0), (2, tI x2), (3, tI x3)] dX2_lookWhy_54 rfl rfl ?_
      refine fk_iconst (v := 0) X dX2_lookWhy_56 rfl ?_
      refine fk_istore X [(5, tI 0), (4, tI x2), (0, tR x0), (2, tI x2), (3, tI x3)] dX2_lookWhy_57 rfl rfl ?_
      exact fk_cut' (w_X2_lookWhy_L59 X Y x0 x3 fk_fuel x2 0 m0 hf) [2, 4, 1, 0] rfl
    · refine fk_aload_n X 0 dX2_lookWhy_39 rfl ?_
      refine fk_getR' X fd_1_38 q1564 dX2_lookWhy_40 hf (fun z1 hf => ?_)
      refine fk_iload X 3 dX2_lookWhy_43 rfl ?_
      refine fk_iconst (v := 0) X dX2_lookWhy_45 rfl ?_
      refine fk_iastore' X dX2_lookWhy_46 hf (fun m2 hf => ?_)
      refine fk_iinc X 3 [(4, tI (x4 + 1)), (0, tR x0), (2, tI x2), (3, tI x3)] dX2_lookWhy_47 rfl rfl rfl rfl ?_
      refine fk_goto X 33 dX2_lookWhy_50 rfl ?_
      exact fk_cut' (ih (x4 + 1) m2  hf) [1, 2, 3, 0] rfl
def f_X2_lookWhy (a0 : Option Nat) (a1 : Int32) (a2 : Int32) (a3 : Int32) (m0 : fk_M) : Option (Int32 × fk_M) :=
  if a1 = 0 then (some (1, m0)) else ((f_X2_in a2 0 65536 m0).bind fun z1 => if z1 = 0 then (some (2, m0)) else ((f_X2_in a3 0 200 m0).bind fun z2 => if z2 = 0 then (some (2, m0)) else (f_X2_lookWhy_L33 a0 a2 a3 fk_fuel 0 m0)))
set_option maxHeartbeats 4000000 in
theorem c_X2_lookWhy {l : Launch} {G : fk_G} {b0 : Nat} {n : Nat} {a0 : Option Nat} {a1 : Int32} {a2 : Int32} {a3 : Int32} {m0 : fk_M} {r : Int32} {mF : fk_M} (hf : f_X2_lookWhy a0 a1 a2 a3 m0 = some (r, mF)) : fk_Ct l G b0 yX2_lookWhy cX2_lookWhy 6 (some .int) 2 82 [tR a0, tI a1, tI a2, tI a3] n m0 (some (tI r)) n mF 0 0 := by
  refine fk_enter n_X2_lookWhy.1 rfl ?_
  intro E X0 Y
  have X : fk_X E l G b0 "FigureKneeModel" "lookWhy" cX2_lookWhy 6 2 82 0 0 := X0
  show fk_W E 6 n m0 0 0 0 [(0, tR a0), (1, tI a1), (2, tI a2), (3, tI a3)] []
  unfold f_X2_lookWhy at hf
  refine fk_iload_n X 1 dX2_lookWhy_0 rfl ?_
  refine fk_if_ne' X 6 dX2_lookWhy_1 rfl hf (fun hf => ?_) (fun hf => ?_)
  · refine fk_iload_n X 2 dX2_lookWhy_6 rfl ?_
    refine fk_iconst (v := 0) X dX2_lookWhy_7 rfl ?_
    refine fk_ldcw X q2119 dX2_lookWhy_8 ?_
    obtain ⟨z1, hv, hf⟩ := bI hf
    refine fk_callS0I (rest := []) X (c_X2_in hv) n_X2_in q1669 q1670 q126 q1671 dX2_lookWhy_11 rfl rfl rfl rfl rfl (Nat.le_refl _) (Nat.le_refl _) ?_
    refine fk_if_eq' X 28 dX2_lookWhy_14 rfl hf (fun hf => ?_) (fun hf => ?_)
    · refine fk_iconst (v := 2) X dX2_lookWhy_28 rfl ?_
      cases hf
      exact fk_ireturn X Y dX2_lookWhy_29 rfl
    · refine fk_iload_n X 3 dX2_lookWhy_17 rfl ?_
      refine fk_iconst (v := 0) X dX2_lookWhy_18 rfl ?_
      refine fk_sipush (v := 200) X dX2_lookWhy_19 rfl ?_
      obtain ⟨z2, hv, hf⟩ := bI hf
      refine fk_callS0I (rest := []) X (c_X2_in hv) n_X2_in q1669 q1670 q126 q1671 dX2_lookWhy_22 rfl rfl rfl rfl rfl (Nat.le_refl _) (Nat.le_refl _) ?_
      refine fk_if_ne' X 30 dX2_lookWhy_25 rfl hf (fun hf => ?_) (fun hf => ?_)
      · refine fk_iconst (v := 0) X dX2_lookWhy_30 rfl ?_
        refine fk_istore X [(4, tI 0), (0, tR a0), (1, tI a1), (2, tI a2), (3, tI a3)] dX2_lookWhy_31 rfl rfl ?_
        exact fk_cut' (w_X2_lookWhy_L33 X Y a0 a2 a3 fk_fuel 0 m0 hf) [1, 3, 4, 0] rfl
      · refine fk_iconst (v := 2) X dX2_lookWhy_28 rfl ?_
        cases hf
        exact fk_ireturn X Y dX2_lookWhy_29 rfl
  · refine fk_iconst (v := 1) X dX2_lookWhy_4 rfl ?_
    cases hf
    exact fk_ireturn X Y dX2_lookWhy_5 rfl
/-! FigureKneeModel looks (III)I -/
theorem n_X2_looks : fk_N yX2_looks 3 := ⟨by decide +kernel, by decide +kernel, by decide +kernel, by decide +kernel⟩
def f_X2_looks (a0 : Option Nat) (a1 : Int32) (a2 : Int32) (a3 : Int32) (m0 : fk_M) : Option (Int32 × fk_M) :=
  (isO m0 a0 1).bind fun u1 => (f_X2_good a0 m0).bind fun m2 => (isO m2 a0 1).bind fun u3 => (f_X2_isPair a0 a1 m2).bind fun z4 => (isO m2 a0 1).bind fun u5 => bn2 (f_X2_lookWhy a0 z4 a2 a3 m2) fun z6 m7 => if z6 = 0 then ((gR m7 a0 1 38).bind fun z8 => (aI m7 z8 0 a1).bind fun z9 => some (z9, m7)) else ((isO m7 a0 1).bind fun u10 => bn2 (f_X2_no a0 z6 m7) fun z11 m12 => some (z11, m12))
set_option maxHeartbeats 4000000 in
theorem c_X2_looks {l : Launch} {G : fk_G} {b0 : Nat} {n : Nat} {a0 : Option Nat} {a1 : Int32} {a2 : Int32} {a3 : Int32} {m0 : fk_M} {r : Int32} {mF : fk_M} (hf : f_X2_looks a0 a1 a2 a3 m0 = some (r, mF)) : fk_Ct l G b0 yX2_looks cX2_looks 5 (some .int) 3 107 [tR a0, tI a1, tI a2, tI a3] n m0 (some (tI r)) n mF 0 0 := by
  refine fk_enter n_X2_looks.1 rfl ?_
  intro E X0 Y
  have X : fk_X E l G b0 "FigureKneeModel" "looks" cX2_looks 5 3 107 0 0 := X0
  show fk_W E 5 n m0 0 0 0 [(0, tR a0), (1, tI a1), (2, tI a2), (3, tI a3)] []
  unfold f_X2_looks at hf
  refine fk_aload_n X 0 dX2_looks_0 rfl ?_
  obtain ⟨u1, hq, hf⟩ := bI hf
  obtain ⟨m2, hv, hf⟩ := bI hf
  refine fk_callV0V (ci := 1) (rest := []) X hq rfl (c_X2_good hv) n_X2_good q1665 q1667 qs63 q126 q1668 rfl dX2_looks_1 rfl rfl rfl rfl rfl (Nat.le_refl _) (Nat.le_refl _) ?_
  refine fk_aload_n X 0 dX2_looks_4 rfl ?_
  refine fk_aload_n X 0 dX2_looks_5 rfl ?_
  refine fk_iload_n X 1 dX2_looks_6 rfl ?_
  obtain ⟨u3, hq, hf⟩ := bI hf
  obtain ⟨z4, hv, hf⟩ := bI hf
  refine fk_callV0I (ci := 1) (rest := [tR a0]) X hq rfl (c_X2_isPair hv) n_X2_isPair q1820 q1822 qs87 q126 q1823 rfl dX2_looks_7 rfl rfl rfl rfl rfl (Nat.le_refl _) (Nat.le_refl _) ?_
  refine fk_iload_n X 2 dX2_looks_10 rfl ?_
  refine fk_iload_n X 3 dX2_looks_11 rfl ?_
  obtain ⟨u5, hq, hf⟩ := bI hf
  obtain ⟨z6, m7, hv, hf⟩ := bn2_eq hf
  refine fk_callV0I (ci := 1) (rest := []) X hq rfl (c_X2_lookWhy hv) n_X2_lookWhy q2115 q2117 qs117 q126 q2118 rfl dX2_looks_12 rfl rfl rfl rfl rfl (Nat.le_refl _) (Nat.le_refl _) ?_
  refine fk_istore X [(4, tI z6), (0, tR a0), (1, tI a1), (2, tI a2), (3, tI a3)] dX2_looks_15 rfl rfl ?_
  refine fk_iload X 0 dX2_looks_17 rfl ?_
  refine fk_if_eq' X 31 dX2_looks_19 rfl hf (fun hf => ?_) (fun hf => ?_)
  · refine fk_aload_n X 1 dX2_looks_31 rfl ?_
    refine fk_getR' X fd_1_38 q1564 dX2_looks_32 hf (fun z8 hf => ?_)
    refine fk_iload_n X 2 dX2_looks_35 rfl ?_
    refine fk_iaload' X dX2_looks_36 hf (fun z9 hf => ?_)
    cases hf
    exact fk_ireturn X Y dX2_looks_37 rfl
  · refine fk_aload_n X 1 dX2_looks_22 rfl ?_
    refine fk_iload X 0 dX2_looks_23 rfl ?_
    obtain ⟨u10, hq, hf⟩ := bI hf
    obtain ⟨z11, m12, hv, hf⟩ := bn2_eq hf
    refine fk_callV0I (ci := 1) (rest := []) X hq rfl (c_X2_no hv) n_X2_no q1672 q1674 qs64 q126 q1675 rfl dX2_looks_25 rfl rfl rfl rfl rfl (Nat.le_refl _) (Nat.le_refl _) ?_
    refine fk_goto X 37 dX2_looks_28 rfl ?_
    cases hf
    exact fk_ireturn X Y dX2_looks_37 rfl
/-! FigureKneeModel verdict (II)I -/
theorem n_X2_verdict : fk_N yX2_verdict 2 := ⟨by decide +kernel, by decide +kernel, by decide +kernel, by decide +kernel⟩
def f_X2_verdict (a0 : Option Nat) (a1 : Int32) (a2 : Int32) (m0 : fk_M) : Option (Int32 × fk_M) :=
  (isO m0 a0 1).bind fun u1 => (f_X2_good a0 m0).bind fun m2 => (gI m2 a0 1 14).bind fun z3 => (isO m2 a0 1).bind fun u4 => bn2 (f_X2_lookWhy a0 z3 a1 a2 m2) fun z5 m6 => if z5 = 0 then ((isO m6 a0 1).bind fun u7 => (f_X2_verdictOf a0 m6).bind fun z8 => some (z8, m6)) else ((isO m6 a0 1).bind fun u9 => bn2 (f_X2_no a0 z5 m6) fun z10 m11 => some (z10, m11))
set_option maxHeartbeats 4000000 in
theorem c_X2_verdict {l : Launch} {G : fk_G} {b0 : Nat} {n : Nat} {a0 : Option Nat} {a1 : Int32} {a2 : Int32} {m0 : fk_M} {r : Int32} {mF : fk_M} (hf : f_X2_verdict a0 a1 a2 m0 = some (r, mF)) : fk_Ct l G b0 yX2_verdict cX2_verdict 4 (some .int) 3 107 [tR a0, tI a1, tI a2] n m0 (some (tI r)) n mF 0 0 := by
  refine fk_enter n_X2_verdict.1 rfl ?_
  intro E X0 Y
  have X : fk_X E l G b0 "FigureKneeModel" "verdict" cX2_verdict 4 3 107 0 0 := X0
  show fk_W E 4 n m0 0 0 0 [(0, tR a0), (1, tI a1), (2, tI a2)] []
  unfold f_X2_verdict at hf
  refine fk_aload_n X 0 dX2_verdict_0 rfl ?_
  obtain ⟨u1, hq, hf⟩ := bI hf
  obtain ⟨m2, hv, hf⟩ := bI hf
  refine fk_callV0V (ci := 1) (rest := []) X hq rfl (c_X2_good hv) n_X2_good q1665 q1667 qs63 q126 q1668 rfl dX2_verdict_1 rfl rfl rfl rfl rfl (Nat.le_refl _) (Nat.le_refl _) ?_
  refine fk_aload_n X 0 dX2_verdict_4 rfl ?_
  refine fk_aload_n X 0 dX2_verdict_5 rfl ?_
  refine fk_getI' X fd_1_14 q1540 dX2_verdict_6 hf (fun z3 hf => ?_)
  refine fk_iload_n X 1 dX2_verdict_9 rfl ?_
  refine fk_iload_n X 2 dX2_verdict_10 rfl ?_
  obtain ⟨u4, hq, hf⟩ := bI hf
  obtain ⟨z5, m6, hv, hf⟩ := bn2_eq hf
  refine fk_callV0I (ci := 1) (rest := []) X hq rfl (c_X2_lookWhy hv) n_X2_lookWhy q2115 q2117 qs117 q126 q2118 rfl dX2_verdict_11 rfl rfl rfl rfl rfl (Nat.le_refl _) (Nat.le_refl _) ?_
  refine fk_istore_n X [(3, tI z5), (0, tR a0), (1, tI a1), (2, tI a2)] dX2_verdict_14 rfl rfl ?_
  refine fk_iload_n X 0 dX2_verdict_15 rfl ?_
  refine fk_if_eq' X 27 dX2_verdict_16 rfl hf (fun hf => ?_) (fun hf => ?_)
  · refine fk_aload_n X 1 dX2_verdict_27 rfl ?_
    obtain ⟨u7, hq, hf⟩ := bI hf
    obtain ⟨z8, hv, hf⟩ := bI hf
    refine fk_callV0I (ci := 1) (rest := []) X hq rfl (c_X2_verdictOf hv) n_X2_verdictOf q2104 q2106 qs116 q126 q2107 rfl dX2_verdict_28 rfl rfl rfl rfl rfl (Nat.le_refl _) (Nat.le_refl _) ?_
    cases hf
    exact fk_ireturn X Y dX2_verdict_31 rfl
  · refine fk_aload_n X 1 dX2_verdict_19 rfl ?_
    refine fk_iload_n X 0 dX2_verdict_20 rfl ?_
    obtain ⟨u9, hq, hf⟩ := bI hf
    obtain ⟨z10, m11, hv, hf⟩ := bn2_eq hf
    refine fk_callV0I (ci := 1) (rest := []) X hq rfl (c_X2_no hv) n_X2_no q1672 q1674 qs64 q126 q1675 rfl dX2_verdict_21 rfl rfl rfl rfl rfl (Nat.le_refl _) (Nat.le_refl _) ?_
    refine fk_goto X 31 dX2_verdict_24 rfl ?_
    cases hf
    exact fk_ireturn X Y dX2_verdict_31 rfl
/-! FigureKneeModel tryDumb (III)V -/
theorem n_X2_tryDumb : fk_N yX2_tryDumb 3 := ⟨by decide +kernel, by decide +kernel, by decide +kernel, by decide +kernel⟩
def f_X2_tryDumb_J78 (R18 : Int32 → fk_M → Option fk_M) (R40 : Int64 → Int32 → Int32 → Option fk_M) (x0 : Option Nat) (x1 : Int32) (x2 : Int32) (x3 : Int32) (x4 : Int32) (x7 : Int32) (x8 : Int32) (y0 : Int64) (y1 : Int64) (m0 : fk_M) : Option fk_M :=
  (gR m0 x0 1 19).bind fun z1 => (aI m0 z1 0 (5 + x1)).bind fun z2 => (gR m0 x0 1 15).bind fun z3 => (aI m0 z3 0 (13 + x1)).bind fun z4 => (gR m0 x0 1 19).bind fun z5 => (aI m0 z5 0 35).bind fun z6 => (f_X2_hasBit x4 x8 m0).bind fun z7 => (isO m0 x0 1).bind fun u8 => (f_X2_behind x0 x1 x7 z2 z4 ((z6 + x8) + 1) z7 m0).bind fun z9 => R40 (y1 * y0) z9 (x8 + 1)
set_option maxHeartbeats 4000000 in
theorem w_X2_tryDumb_J78 {E : fk_E} {l : Launch} {G : fk_G} {b0 n : Nat} {mF : fk_M} (X : fk_X E l G b0 "FigureKneeModel" "tryDumb" cX2_tryDumb 9 4 132 0 0) (Y : fk_Y E none none n mF 0 0) (x0 : Option Nat) (x1 : Int32) (x2 : Int32) (x3 : Int32) (x4 : Int32) (x7 : Int32) (x8 : Int32) (y0 : Int64) (y1 : Int64) (m0 : fk_M) {R18 : Int32 → fk_M → Option fk_M} (hR18 : ∀ (v4 : Int32) (m9 : fk_M), R18 v4 m9 = some mF → fk_W E 9 n m9 0 0 18 [(0, tR x0), (1, tI x1), (2, tI x2), (3, tI x3), (4, tI v4)] []) {R40 : Int64 → Int32 → Int32 → Option fk_M} (hR40 : ∀ (v5 : Int64) (v7 : Int32) (v8 : Int32), R40 v5 v7 v8 = some mF → fk_W E 9 n m0 0 0 40 [(0, tR x0), (1, tI x1), (2, tI x2), (3, tI x3), (4, tI x4), (5, tL v5), (7, tI v7), (8, tI v8)] []) (hf : f_X2_tryDumb_J78 R18 R40 x0 x1 x2 x3 x4 x7 x8 y0 y1 m0 = some mF) : fk_W E 9 n m0 0 0 78 [(0, tR x0), (1, tI x1), (2, tI x2), (3, tI x3), (4, tI x4), (7, tI x7), (8, tI x8)] [tL y0, tL y1] := by
  unfold f_X2_tryDumb_J78 at hf
  refine fk_lmul X dX2_tryDumb_78 ?_
  refine fk_lstore X [(5, tL (y1 * y0)), (0, tR x0), (1, tI x1), (2, tI x2), (3, tI x3), (4, tI x4), (7, tI x7), (8, tI x8)] dX2_tryDumb_79 rfl rfl ?_
  refine fk_aload_n X 1 dX2_tryDumb_81 rfl ?_
  refine fk_iload_n X 2 dX2_tryDumb_82 rfl ?_
  refine fk_iload X 6 dX2_tryDumb_83 rfl ?_
  refine fk_aload_n X 1 dX2_tryDumb_85 rfl ?_
  refine fk_getR' X fd_1_19 q1545 dX2_tryDumb_86 hf (fun z1 hf => ?_)
  refine fk_iconst (v := 5) X dX2_tryDumb_89 rfl ?_
  refine fk_iload_n X 2 dX2_tryDumb_90 rfl ?_
  refine fk_iadd X dX2_tryDumb_91 ?_
  refine fk_iaload' X dX2_tryDumb_92 hf (fun z2 hf => ?_)
  refine fk_aload_n X 1 dX2_tryDumb_93 rfl ?_
  refine fk_getR' X fd_1_15 q1541 dX2_tryDumb_94 hf (fun z3 hf => ?_)
  refine fk_bipush (v := 13) X dX2_tryDumb_97 rfl ?_
  refine fk_iload_n X 2 dX2_tryDumb_99 rfl ?_
  refine fk_iadd X dX2_tryDumb_100 ?_
  refine fk_iaload' X dX2_tryDumb_101 hf (fun z4 hf => ?_)
  refine fk_aload_n X 1 dX2_tryDumb_102 rfl ?_
  refine fk_getR' X fd_1_19 q1545 dX2_tryDumb_103 hf (fun z5 hf => ?_)
  refine fk_bipush (v := 35) X dX2_tryDumb_106 rfl ?_
  refine fk_iaload' X dX2_tryDumb_108 hf (fun z6 hf => ?_)
  refine fk_iload X 7 dX2_tryDumb_109 rfl ?_
  refine fk_iadd X dX2_tryDumb_111 ?_
  refine fk_iconst (v := 1) X dX2_tryDumb_112 rfl ?_
  refine fk_iadd X dX2_tryDumb_113 ?_
  refine fk_iload X 5 dX2_tryDumb_114 rfl ?_
  refine fk_iload X 7 dX2_tryDumb_116 rfl ?_
  obtain ⟨z7, hv, hf⟩ := bI hf
  refine fk_callS0I (rest := [tI ((z6 + x8) + 1), tI z4, tI z2, tI x7, tI x1, tR x0]) X (c_X2_hasBit hv) n_X2_hasBit q1985 q1986 q126 q1987 dX2_tryDumb_118 rfl rfl rfl rfl rfl (Nat.le_refl _) (Nat.le_refl _) ?_
  obtain ⟨u8, hq, hf⟩ := bI hf
  obtain ⟨z9, hv, hf⟩ := bI hf
  refine fk_callV0I (ci := 1) (rest := []) X hq rfl (c_X2_behind hv) n_X2_behind q1848 q1850 qs93 q126 q1851 rfl dX2_tryDumb_121 rfl rfl rfl rfl rfl (Nat.le_refl _) (Nat.le_refl _) ?_
  refine fk_istore X [(7, tI z9), (5, tL (y1 * y0)), (0, tR x0), (1, tI x1), (2, tI x2), (3, tI x3), (4, tI x4), (8, tI x8)] dX2_tryDumb_124 rfl rfl ?_
  refine fk_iinc X 7 [(8, tI (x8 + 1)), (7, tI z9), (5, tL (y1 * y0)), (0, tR x0), (1, tI x1), (2, tI x2), (3, tI x3), (4, tI x4)] dX2_tryDumb_126 rfl rfl rfl rfl ?_
  refine fk_goto X 40 dX2_tryDumb_129 rfl ?_
  exact fk_cut' (hR40 (y1 * y0) z9 (x8 + 1)  hf) [3, 4, 5, 6, 7, 2, 1, 0] rfl
def f_X2_tryDumb_L40 (R18 : Int32 → fk_M → Option fk_M) (x0 : Option Nat) (x1 : Int32) (x2 : Int32) (x3 : Int32) (x4 : Int32) (m0 : fk_M) : Nat → Int64 → Int32 → Int32 → Option fk_M
  | 0, _, _, _ => none
  | N + 1, x5, x7, x8 =>
  if x2 ≤ x8 then ((gL m0 x0 1 39).bind fun z1 => (pV m0 x0 1 39 (tL (z1 + x5))).bind fun m2 => (gL m2 x0 1 40).bind fun z3 => (pV m2 x0 1 40 (tL (z3 + (if x7 < x3 then (0 : Int64) else x5)))).bind fun m4 => (gL m4 x0 1 41).bind fun z5 => (pV m4 x0 1 41 (tL (z5 + (x5 * (Int32.toInt64 x7))))).bind fun m6 => R18 (x4 + 1) m6) else ((f_X2_hasBit x4 x8 m0).bind fun z7 => if z7 = 0 then ((gR m0 x0 1 15).bind fun z8 => (aI m0 z8 0 1).bind fun z9 => f_X2_tryDumb_J78 R18 (f_X2_tryDumb_L40 R18 x0 x1 x2 x3 x4 m0 N) x0 x1 x2 x3 x4 x7 x8 (Int32.toInt64 (100 - z9)) x5 m0) else ((gR m0 x0 1 15).bind fun z10 => (aI m0 z10 0 1).bind fun z11 => f_X2_tryDumb_J78 R18 (f_X2_tryDumb_L40 R18 x0 x1 x2 x3 x4 m0 N) x0 x1 x2 x3 x4 x7 x8 (Int32.toInt64 z11) x5 m0))
set_option maxHeartbeats 4000000 in
theorem w_X2_tryDumb_L40 {E : fk_E} {l : Launch} {G : fk_G} {b0 n : Nat} {mF : fk_M} (X : fk_X E l G b0 "FigureKneeModel" "tryDumb" cX2_tryDumb 9 4 132 0 0) (Y : fk_Y E none none n mF 0 0) (x0 : Option Nat) (x1 : Int32) (x2 : Int32) (x3 : Int32) (x4 : Int32) (m0 : fk_M) {R18 : Int32 → fk_M → Option fk_M} (hR18 : ∀ (v4 : Int32) (m9 : fk_M), R18 v4 m9 = some mF → fk_W E 9 n m9 0 0 18 [(0, tR x0), (1, tI x1), (2, tI x2), (3, tI x3), (4, tI v4)] []) : ∀ (N : Nat) (x5 : Int64) (x7 : Int32) (x8 : Int32), f_X2_tryDumb_L40 R18 x0 x1 x2 x3 x4 m0 N x5 x7 x8 = some mF → fk_W E 9 n m0 0 0 40 [(0, tR x0), (1, tI x1), (2, tI x2), (3, tI x3), (4, tI x4), (5, tL x5), (7, tI x7), (8, tI x8)] [] := by
  intro N
  induction N with
  | zero =>
    intro x5 x7 x8 hf
    have hf : (none : Option fk_M) = some _ := hf
    cases hf
  | succ N ih =>
    intro x5 x7 x8 hf
    rw [f_X2_tryDumb_L40] at hf
    refine fk_iload X 7 dX2_tryDumb_40 rfl ?_
    refine fk_iload_n X 2 dX2_tryDumb_42 rfl ?_
    refine fk_icmp_ge' X 132 dX2_tryDumb_43 rfl hf (fun hf => ?_) (fun hf => ?_)
    · refine fk_aload_n X 0 dX2_tryDumb_132 rfl ?_
      refine fk_dup X dX2_tryDumb_133 rfl ?_
      refine fk_getL' X fd_1_39 q1565 dX2_tryDumb_134 hf (fun z1 hf => ?_)
      refine fk_lload X 5 dX2_tryDumb_137 rfl ?_
      refine fk_ladd X dX2_tryDumb_139 ?_
      refine fk_putL' X fd_1_39 q1565 dX2_tryDumb_140 (fit_J _) hf (fun m2 hf => ?_)
      refine fk_aload_n X 0 dX2_tryDumb_143 rfl ?_
      refine fk_dup X dX2_tryDumb_144 rfl ?_
      refine fk_getL' X fd_1_40 q1566 dX2_tryDumb_145 hf (fun z3 hf => ?_)
      refine fk_iload X 6 dX2_tryDumb_148 rfl ?_
      refine fk_iload_n X 3 dX2_tryDumb_150 rfl ?_
      have J1 : fk_W E 9 n m2 0 0 160 [(0, tR x0), (1, tI x1), (2, tI x2), (3, tI x3), (4, tI x4), (5, tL x5), (7, tI x7)] [tL (if x7 < x3 then (0 : Int64) else x5), tL z3, tR x0] := by
        refine fk_ladd X dX2_tryDumb_160 ?_
        refine fk_putL' X fd_1_40 q1566 dX2_tryDumb_161 (fit_J _) hf (fun m4 hf => ?_)
        refine fk_aload_n X 0 dX2_tryDumb_164 rfl ?_
        refine fk_dup X dX2_tryDumb_165 rfl ?_
        refine fk_getL' X fd_1_41 q1567 dX2_tryDumb_166 hf (fun z5 hf => ?_)
        refine fk_lload X 5 dX2_tryDumb_169 rfl ?_
        refine fk_iload X 6 dX2_tryDumb_171 rfl ?_
        refine fk_i2l X dX2_tryDumb_173 ?_
        refine fk_lmul X dX2_tryDumb_174 ?_
        refine fk_ladd X dX2_tryDumb_175 ?_
        refine fk_putL' X fd_1_41 q1567 dX2_tryDumb_176 (fit_J _) hf (fun m6 hf => ?_)
        refine fk_iinc X 4 [(4, tI (x4 + 1)), (0, tR x0), (1, tI x1), (2, tI x2), (3, tI x3), (5, tL x5), (7, tI x7)] dX2_tryDumb_179 rfl rfl rfl rfl ?_
        refine fk_goto X 18 dX2_tryDumb_182 rfl ?_
        exact fk_cut' (hR18 (x4 + 1) m6  hf) [1, 2, 3, 4, 0] rfl
      refine fk_icmp_lt X 159 dX2_tryDumb_151 rfl (fun hc2 => ?_) (fun hc2 => ?_)
      · refine fk_lconst (v := 0) X dX2_tryDumb_159 rfl ?_
        simp only [if_pos hc2] at J1
        exact fk_cut' J1 [0, 1, 2, 3, 4, 5, 6] rfl
      · refine fk_lload X 5 dX2_tryDumb_154 rfl ?_
        refine fk_goto X 160 dX2_tryDumb_156 rfl ?_
        simp only [if_neg hc2] at J1
        exact fk_cut' J1 [0, 1, 2, 3, 4, 5, 6] rfl
    · refine fk_lload X 5 dX2_tryDumb_46 rfl ?_
      refine fk_iload X 4 dX2_tryDumb_48 rfl ?_
      refine fk_iload X 7 dX2_tryDumb_50 rfl ?_
      obtain ⟨z7, hv, hf⟩ := bI hf
      refine fk_callS0I (rest := [tL x5]) X (c_X2_hasBit hv) n_X2_hasBit q1985 q1986 q126 q1987 dX2_tryDumb_52 rfl rfl rfl rfl rfl (Nat.le_refl _) (Nat.le_refl _) ?_
      refine fk_if_eq' X 68 dX2_tryDumb_55 rfl hf (fun hf => ?_) (fun hf => ?_)
      · refine fk_bipush (v := 100) X dX2_tryDumb_68 rfl ?_
        refine fk_aload_n X 0 dX2_tryDumb_70 rfl ?_
        refine fk_getR' X fd_1_15 q1541 dX2_tryDumb_71 hf (fun z8 hf => ?_)
        refine fk_iconst (v := 1) X dX2_tryDumb_74 rfl ?_
        refine fk_iaload' X dX2_tryDumb_75 hf (fun z9 hf => ?_)
        refine fk_isub X dX2_tryDumb_76 ?_
        refine fk_i2l X dX2_tryDumb_77 ?_
        exact fk_cut' (w_X2_tryDumb_J78 X Y x0 x1 x2 x3 x4 x7 x8 (Int32.toInt64 (100 - z9)) x5 m0 hR18 ih hf) [0, 1, 2, 3, 4, 6, 7] rfl
      · refine fk_aload_n X 0 dX2_tryDumb_58 rfl ?_
        refine fk_getR' X fd_1_15 q1541 dX2_tryDumb_59 hf (fun z10 hf => ?_)
        refine fk_iconst (v := 1) X dX2_tryDumb_62 rfl ?_
        refine fk_iaload' X dX2_tryDumb_63 hf (fun z11 hf => ?_)
        refine fk_i2l X dX2_tryDumb_64 ?_
        refine fk_goto X 78 dX2_tryDumb_65 rfl ?_
        exact fk_cut' (w_X2_tryDumb_J78 X Y x0 x1 x2 x3 x4 x7 x8 (Int32.toInt64 z11) x5 m0 hR18 ih hf) [0, 1, 2, 3, 4, 6, 7] rfl
def f_X2_tryDumb_L18 (x0 : Option Nat) (x1 : Int32) (x2 : Int32) (x3 : Int32) : Nat → Int32 → fk_M → Option fk_M
  | 0, _, _ => none
  | N + 1, x4, m0 =>
  if (i_shl 1 x2) ≤ x4 then (some m0) else ((gR m0 x0 1 19).bind fun z1 => (aI m0 z1 0 x1).bind fun z2 => f_X2_tryDumb_L40 (f_X2_tryDumb_L18 x0 x1 x2 x3 N) x0 x1 x2 x3 x4 m0 fk_fuel 1 z2 0)
set_option maxHeartbeats 4000000 in
theorem w_X2_tryDumb_L18 {E : fk_E} {l : Launch} {G : fk_G} {b0 n : Nat} {mF : fk_M} (X : fk_X E l G b0 "FigureKneeModel" "tryDumb" cX2_tryDumb 9 4 132 0 0) (Y : fk_Y E none none n mF 0 0) (x0 : Option Nat) (x1 : Int32) (x2 : Int32) (x3 : Int32) : ∀ (N : Nat) (x4 : Int32) (m0 : fk_M), f_X2_tryDumb_L18 x0 x1 x2 x3 N x4 m0 = some mF → fk_W E 9 n m0 0 0 18 [(0, tR x0), (1, tI x1), (2, tI x2), (3, tI x3), (4, tI x4)] [] := by
  intro N
  induction N with
  | zero =>
    intro x4 m0 hf
    have hf : (none : Option fk_M) = some _ := hf
    cases hf
  | succ N ih =>
    intro x4 m0 hf
    rw [f_X2_tryDumb_L18] at hf
    refine fk_iload X 4 dX2_tryDumb_18 rfl ?_
    refine fk_iconst (v := 1) X dX2_tryDumb_20 rfl ?_
    refine fk_iload_n X 2 dX2_tryDumb_21 rfl ?_
    refine fk_ishl X dX2_tryDumb_22 ?_
    refine fk_icmp_ge' X 185 dX2_tryDumb_23 rfl hf (fun hf => ?_) (fun hf => ?_)
    · cases hf
      exact fk_return X Y dX2_tryDumb_185
    · refine fk_lconst (v := 1) X dX2_tryDumb_26 rfl ?_
      refine fk_lstore X [(5, tL 1), (0, tR x0), (1, tI x1), (2, tI x2), (3, tI x3), (4, tI x4)] dX2_tryDumb_27 rfl rfl ?_
      refine fk_aload_n X 1 dX2_tryDumb_29 rfl ?_
      refine fk_getR' X fd_1_19 q1545 dX2_tryDumb_30 hf (fun z1 hf => ?_)
      refine fk_iload_n X 2 dX2_tryDumb_33 rfl ?_
      refine fk_iaload' X dX2_tryDumb_34 hf (fun z2 hf => ?_)
      refine fk_istore X [(7, tI z2), (5, tL 1), (0, tR x0), (1, tI x1), (2, tI x2), (3, tI x3), (4, tI x4)] dX2_tryDumb_35 rfl rfl ?_
      refine fk_iconst (v := 0) X dX2_tryDumb_37 rfl ?_
      refine fk_istore X [(8, tI 0), (7, tI z2), (5, tL 1), (0, tR x0), (1, tI x1), (2, tI x2), (3, tI x3), (4, tI x4)] dX2_tryDumb_38 rfl rfl ?_
      exact fk_cut' (w_X2_tryDumb_L40 X Y x0 x1 x2 x3 x4 m0 ih fk_fuel 1 z2 0 hf) [3, 4, 5, 6, 7, 2, 1, 0] rfl
def f_X2_tryDumb (a0 : Option Nat) (a1 : Int32) (a2 : Int32) (a3 : Int32) (m0 : fk_M) : Option fk_M :=
  (pV m0 a0 1 39 (tL 0)).bind fun m1 => (pV m1 a0 1 40 (tL 0)).bind fun m2 => (pV m2 a0 1 41 (tL 0)).bind fun m3 => f_X2_tryDumb_L18 a0 a1 a2 a3 fk_fuel 0 m3
set_option maxHeartbeats 4000000 in
theorem c_X2_tryDumb {l : Launch} {G : fk_G} {b0 : Nat} {n : Nat} {a0 : Option Nat} {a1 : Int32} {a2 : Int32} {a3 : Int32} {m0 : fk_M} {mF : fk_M} (hf : f_X2_tryDumb a0 a1 a2 a3 m0 = some mF) : fk_Ct l G b0 yX2_tryDumb cX2_tryDumb 9 none 4 132 [tR a0, tI a1, tI a2, tI a3] n m0 none n mF 0 0 := by
  refine fk_enter n_X2_tryDumb.1 rfl ?_
  intro E X0 Y
  have X : fk_X E l G b0 "FigureKneeModel" "tryDumb" cX2_tryDumb 9 4 132 0 0 := X0
  show fk_W E 9 n m0 0 0 0 [(0, tR a0), (1, tI a1), (2, tI a2), (3, tI a3)] []
  unfold f_X2_tryDumb at hf
  refine fk_aload_n X 0 dX2_tryDumb_0 rfl ?_
  refine fk_lconst (v := 0) X dX2_tryDumb_1 rfl ?_
  refine fk_putL' X fd_1_39 q1565 dX2_tryDumb_2 (fit_J _) hf (fun m1 hf => ?_)
  refine fk_aload_n X 0 dX2_tryDumb_5 rfl ?_
  refine fk_lconst (v := 0) X dX2_tryDumb_6 rfl ?_
  refine fk_putL' X fd_1_40 q1566 dX2_tryDumb_7 (fit_J _) hf (fun m2 hf => ?_)
  refine fk_aload_n X 0 dX2_tryDumb_10 rfl ?_
  refine fk_lconst (v := 0) X dX2_tryDumb_11 rfl ?_
  refine fk_putL' X fd_1_41 q1567 dX2_tryDumb_12 (fit_J _) hf (fun m3 hf => ?_)
  refine fk_iconst (v := 0) X dX2_tryDumb_15 rfl ?_
  refine fk_istore X [(4, tI 0), (0, tR a0), (1, tI a1), (2, tI a2), (3, tI a3)] dX2_tryDumb_16 rfl rfl ?_
  exact fk_cut' (w_X2_tryDumb_L18 X Y a0 a1 a2 a3 fk_fuel 0 m3 hf) [1, 2, 3, 4, 0] rfl
/-! FigureKneeModel odds (IIIZ)J -/
theorem n_X2_odds : fk_N yX2_odds 4 := ⟨by decide +kernel, by decide +kernel, by decide +kernel, by decide +kernel⟩
def f_X2_odds_J34 (x0 : Option Nat) (x1 : Int32) (x2 : Int32) (x3 : Int32) (x4 : Int32) (y0 : Int32) (y1 : Int32) (y2 : Option Nat) (m0 : fk_M) : Option (Int64 × fk_M) :=
  (isO m0 y2 1).bind fun u1 => (f_X2_why y2 y1 y0 m0).bind fun z2 => if z2 = 0 then ((isO m0 x0 1).bind fun u3 => (f_X2_tryDumb x0 x1 x2 x3 m0).bind fun m4 => (gL m4 x0 1 40).bind fun z5 => (gL m4 x0 1 39).bind fun z6 => (f_X2_lowest z5 z6 x4 m4).bind fun z7 => some (z7, m4)) else ((isO m0 x0 1).bind fun u8 => bn2 (f_X2_no x0 z2 m0) fun z9 m10 => some ((Int32.toInt64 z9), m10))
set_option maxHeartbeats 4000000 in
theorem w_X2_odds_J34 {E : fk_E} {l : Launch} {G : fk_G} {b0 n : Nat} {r : Int64} {mF : fk_M} (X : fk_X E l G b0 "FigureKneeModel" "odds" cX2_odds 6 5 160 0 0) (Y : fk_Y E (some .long) (some (tL r)) n mF 0 0) (x0 : Option Nat) (x1 : Int32) (x2 : Int32) (x3 : Int32) (x4 : Int32) (y0 : Int32) (y1 : Int32) (y2 : Option Nat) (m0 : fk_M) (hf : f_X2_odds_J34 x0 x1 x2 x3 x4 y0 y1 y2 m0 = some (r, mF)) : fk_W E 6 n m0 0 0 34 [(0, tR x0), (1, tI x1), (2, tI x2), (3, tI x3), (4, tI x4)] [tI y0, tI y1, tR y2] := by
  unfold f_X2_odds_J34 at hf
  obtain ⟨u1, hq, hf⟩ := bI hf
  obtain ⟨z2, hv, hf⟩ := bI hf
  refine fk_callV0I (ci := 1) (rest := []) X hq rfl (c_X2_why hv) n_X2_why q1836 q1838 qs90 q126 q1839 rfl dX2_odds_34 rfl rfl rfl rfl rfl (Nat.le_refl _) (Nat.le_refl _) ?_
  refine fk_istore X [(5, tI z2), (0, tR x0), (1, tI x1), (2, tI x2), (3, tI x3), (4, tI x4)] dX2_odds_37 rfl rfl ?_
  refine fk_iload X 0 dX2_odds_39 rfl ?_
  refine fk_if_eq' X 52 dX2_odds_41 rfl hf (fun hf => ?_) (fun hf => ?_)
  · refine fk_aload_n X 1 dX2_odds_52 rfl ?_
    refine fk_iload_n X 2 dX2_odds_53 rfl ?_
    refine fk_iload_n X 3 dX2_odds_54 rfl ?_
    refine fk_iload_n X 4 dX2_odds_55 rfl ?_
    obtain ⟨u3, hq, hf⟩ := bI hf
    obtain ⟨m4, hv, hf⟩ := bI hf
    refine fk_callV0V (ci := 1) (rest := []) X hq rfl (c_X2_tryDumb hv) n_X2_tryDumb q2129 q2131 qs118 q126 q2132 rfl dX2_odds_56 rfl rfl rfl rfl rfl (Nat.le_refl _) (Nat.le_refl _) ?_
    refine fk_aload_n X 1 dX2_odds_59 rfl ?_
    refine fk_getL' X fd_1_40 q1566 dX2_odds_60 hf (fun z5 hf => ?_)
    refine fk_aload_n X 1 dX2_odds_63 rfl ?_
    refine fk_getL' X fd_1_39 q1565 dX2_odds_64 hf (fun z6 hf => ?_)
    refine fk_iload X 5 dX2_odds_67 rfl ?_
    obtain ⟨z7, hv, hf⟩ := bI hf
    refine fk_callS0J (rest := []) X (c_X2_lowest hv) n_X2_lowest q2108 q2109 q126 q2110 dX2_odds_69 rfl rfl rfl rfl rfl (Nat.le_refl _) (Nat.le_refl _) ?_
    cases hf
    exact fk_lreturn X Y dX2_odds_72
  · refine fk_aload_n X 1 dX2_odds_44 rfl ?_
    refine fk_iload X 0 dX2_odds_45 rfl ?_
    obtain ⟨u8, hq, hf⟩ := bI hf
    obtain ⟨z9, m10, hv, hf⟩ := bn2_eq hf
    refine fk_callV0I (ci := 1) (rest := []) X hq rfl (c_X2_no hv) n_X2_no q1672 q1674 qs64 q126 q1675 rfl dX2_odds_47 rfl rfl rfl rfl rfl (Nat.le_refl _) (Nat.le_refl _) ?_
    refine fk_i2l X dX2_odds_50 ?_
    cases hf
    exact fk_lreturn X Y dX2_odds_51
def f_X2_odds_J33 (x0 : Option Nat) (x1 : Int32) (x2 : Int32) (x3 : Int32) (x4 : Int32) (y0 : Int32) (y1 : Option Nat) (m0 : fk_M) : Option (Int64 × fk_M) :=
  f_X2_odds_J34 x0 x1 x2 x3 x4 0 y0 y1 m0
set_option maxHeartbeats 4000000 in
theorem w_X2_odds_J33 {E : fk_E} {l : Launch} {G : fk_G} {b0 n : Nat} {r : Int64} {mF : fk_M} (X : fk_X E l G b0 "FigureKneeModel" "odds" cX2_odds 6 5 160 0 0) (Y : fk_Y E (some .long) (some (tL r)) n mF 0 0) (x0 : Option Nat) (x1 : Int32) (x2 : Int32) (x3 : Int32) (x4 : Int32) (y0 : Int32) (y1 : Option Nat) (m0 : fk_M) (hf : f_X2_odds_J33 x0 x1 x2 x3 x4 y0 y1 m0 = some (r, mF)) : fk_W E 6 n m0 0 0 33 [(0, tR x0), (1, tI x1), (2, tI x2), (3, tI x3), (4, tI x4)] [tI y0, tR y1] := by
  unfold f_X2_odds_J33 at hf
  refine fk_iconst (v := 0) X dX2_odds_33 rfl ?_
  exact fk_cut' (w_X2_odds_J34 X Y x0 x1 x2 x3 x4 0 y0 y1 m0 hf) [0, 1, 2, 3, 4] rfl
def f_X2_odds (a0 : Option Nat) (a1 : Int32) (a2 : Int32) (a3 : Int32) (a4 : Int32) (m0 : fk_M) : Option (Int64 × fk_M) :=
  (isO m0 a0 1).bind fun u1 => (f_X2_good a0 m0).bind fun m2 => (isO m2 a0 1).bind fun u3 => (f_X2_isPair a0 a1 m2).bind fun z4 => (f_X2_in a2 0 5 m2).bind fun z5 => if z5 = 0 then (f_X2_odds_J33 a0 a1 a2 a3 a4 z4 a0 m2) else ((f_X2_in a3 0 99 m2).bind fun z6 => (isO m2 a0 1).bind fun u7 => (f_X2_why a0 z4 (if z6 = 0 then (0 : Int32) else 1) m2).bind fun z8 => if z8 = 0 then ((isO m2 a0 1).bind fun u9 => (f_X2_tryDumb a0 a1 a2 a3 m2).bind fun m10 => (gL m10 a0 1 40).bind fun z11 => (gL m10 a0 1 39).bind fun z12 => (f_X2_lowest z11 z12 a4 m10).bind fun z13 => some (z13, m10)) else ((isO m2 a0 1).bind fun u14 => bn2 (f_X2_no a0 z8 m2) fun z15 m16 => some ((Int32.toInt64 z15), m16)))
set_option maxHeartbeats 4000000 in
theorem c_X2_odds {l : Launch} {G : fk_G} {b0 : Nat} {n : Nat} {a0 : Option Nat} {a1 : Int32} {a2 : Int32} {a3 : Int32} {a4 : Int32} {m0 : fk_M} {r : Int64} {mF : fk_M} (hf : f_X2_odds a0 a1 a2 a3 a4 m0 = some (r, mF)) : fk_Ct l G b0 yX2_odds cX2_odds 6 (some .long) 5 160 [tR a0, tI a1, tI a2, tI a3, tI a4] n m0 (some (tL r)) n mF 0 0 := by
  refine fk_enter n_X2_odds.1 rfl ?_
  intro E X0 Y
  have X : fk_X E l G b0 "FigureKneeModel" "odds" cX2_odds 6 5 160 0 0 := X0
  show fk_W E 6 n m0 0 0 0 [(0, tR a0), (1, tI a1), (2, tI a2), (3, tI a3), (4, tI a4)] []
  unfold f_X2_odds at hf
  refine fk_aload_n X 0 dX2_odds_0 rfl ?_
  obtain ⟨u1, hq, hf⟩ := bI hf
  obtain ⟨m2, hv, hf⟩ := bI hf
  refine fk_callV0V (ci := 1) (rest := []) X hq rfl (c_X2_good hv) n_X2_good q1665 q1667 qs63 q126 q1668 rfl dX2_odds_1 rfl rfl rfl rfl rfl (Nat.le_refl _) (Nat.le_refl _) ?_
  refine fk_aload_n X 0 dX2_odds_4 rfl ?_
  refine fk_aload_n X 0 dX2_odds_5 rfl ?_
  refine fk_iload_n X 1 dX2_odds_6 rfl ?_
  obtain ⟨u3, hq, hf⟩ := bI hf
  obtain ⟨z4, hv, hf⟩ := bI hf
  refine fk_callV0I (ci := 1) (rest := [tR a0]) X hq rfl (c_X2_isPair hv) n_X2_isPair q1820 q1822 qs87 q126 q1823 rfl dX2_odds_7 rfl rfl rfl rfl rfl (Nat.le_refl _) (Nat.le_refl _) ?_
  refine fk_iload_n X 2 dX2_odds_10 rfl ?_
  refine fk_iconst (v := 0) X dX2_odds_11 rfl ?_
  refine fk_iconst (v := 5) X dX2_odds_12 rfl ?_
  obtain ⟨z5, hv, hf⟩ := bI hf
  refine fk_callS0I (rest := [tI z4, tR a0]) X (c_X2_in hv) n_X2_in q1669 q1670 q126 q1671 dX2_odds_13 rfl rfl rfl rfl rfl (Nat.le_refl _) (Nat.le_refl _) ?_
  refine fk_if_eq' X 33 dX2_odds_16 rfl hf (fun hf => ?_) (fun hf => ?_)
  · exact fk_cut' (w_X2_odds_J33 X Y a0 a1 a2 a3 a4 z4 a0 m2 hf) [0, 1, 2, 3, 4] rfl
  · refine fk_iload_n X 3 dX2_odds_19 rfl ?_
    refine fk_iconst (v := 0) X dX2_odds_20 rfl ?_
    refine fk_bipush (v := 99) X dX2_odds_21 rfl ?_
    obtain ⟨z6, hv, hf⟩ := bI hf
    refine fk_callS0I (rest := [tI z4, tR a0]) X (c_X2_in hv) n_X2_in q1669 q1670 q126 q1671 dX2_odds_23 rfl rfl rfl rfl rfl (Nat.le_refl _) (Nat.le_refl _) ?_
    have J1 : fk_W E 6 n m2 0 0 34 [(0, tR a0), (1, tI a1), (2, tI a2), (3, tI a3), (4, tI a4)] [tI (if z6 = 0 then (0 : Int32) else 1), tI z4, tR a0] := by
      obtain ⟨u7, hq, hf⟩ := bI hf
      obtain ⟨z8, hv, hf⟩ := bI hf
      refine fk_callV0I (ci := 1) (rest := []) X hq rfl (c_X2_why hv) n_X2_why q1836 q1838 qs90 q126 q1839 rfl dX2_odds_34 rfl rfl rfl rfl rfl (Nat.le_refl _) (Nat.le_refl _) ?_
      refine fk_istore X [(5, tI z8), (0, tR a0), (1, tI a1), (2, tI a2), (3, tI a3), (4, tI a4)] dX2_odds_37 rfl rfl ?_
      refine fk_iload X 0 dX2_odds_39 rfl ?_
      refine fk_if_eq' X 52 dX2_odds_41 rfl hf (fun hf => ?_) (fun hf => ?_)
      · refine fk_aload_n X 1 dX2_odds_52 rfl ?_
        refine fk_iload_n X 2 dX2_odds_53 rfl ?_
        refine fk_iload_n X 3 dX2_odds_54 rfl ?_
        refine fk_iload_n X 4 dX2_odds_55 rfl ?_
        obtain ⟨u9, hq, hf⟩ := bI hf
        obtain ⟨m10, hv, hf⟩ := bI hf
        refine fk_callV0V (ci := 1) (rest := []) X hq rfl (c_X2_tryDumb hv) n_X2_tryDumb q2129 q2131 qs118 q126 q2132 rfl dX2_odds_56 rfl rfl rfl rfl rfl (Nat.le_refl _) (Nat.le_refl _) ?_
        refine fk_aload_n X 1 dX2_odds_59 rfl ?_
        refine fk_getL' X fd_1_40 q1566 dX2_odds_60 hf (fun z11 hf => ?_)
        refine fk_aload_n X 1 dX2_odds_63 rfl ?_
        refine fk_getL' X fd_1_39 q1565 dX2_odds_64 hf (fun z12 hf => ?_)
        refine fk_iload X 5 dX2_odds_67 rfl ?_
        obtain ⟨z13, hv, hf⟩ := bI hf
        refine fk_callS0J (rest := []) X (c_X2_lowest hv) n_X2_lowest q2108 q2109 q126 q2110 dX2_odds_69 rfl rfl rfl rfl rfl (Nat.le_refl _) (Nat.le_refl _) ?_
        cases hf
        exact fk_lreturn X Y dX2_odds_72
      · refine fk_aload_n X 1 dX2_odds_44 rfl ?_
        refine fk_iload X 0 dX2_odds_45 rfl ?_
        obtain ⟨u14, hq, hf⟩ := bI hf
        obtain ⟨z15, m16, hv, hf⟩ := bn2_eq hf
        refine fk_callV0I (ci := 1) (rest := []) X hq rfl (c_X2_no hv) n_X2_no q1672 q1674 qs64 q126 q1675 rfl dX2_odds_47 rfl rfl rfl rfl rfl (Nat.le_refl _) (Nat.le_refl _) ?_
        refine fk_i2l X dX2_odds_50 ?_
        cases hf
        exact fk_lreturn X Y dX2_odds_51
    refine fk_if_eq X 33 dX2_odds_26 rfl (fun hc2 => ?_) (fun hc2 => ?_)
    · refine fk_iconst (v := 0) X dX2_odds_33 rfl ?_
      simp only [if_pos hc2] at J1
      exact fk_cut' J1 [0, 1, 2, 3, 4] rfl
    · refine fk_iconst (v := 1) X dX2_odds_29 rfl ?_
      refine fk_goto X 34 dX2_odds_30 rfl ?_
      simp only [if_neg hc2] at J1
      exact fk_cut' J1 [0, 1, 2, 3, 4] rfl
/-! FigureKneeModel mean (IIZ)J -/
theorem n_X2_mean : fk_N yX2_mean 3 := ⟨by decide +kernel, by decide +kernel, by decide +kernel, by decide +kernel⟩
def f_X2_mean (a0 : Option Nat) (a1 : Int32) (a2 : Int32) (a3 : Int32) (m0 : fk_M) : Option (Int64 × fk_M) :=
  (isO m0 a0 1).bind fun u1 => (f_X2_good a0 m0).bind fun m2 => (isO m2 a0 1).bind fun u3 => (f_X2_isPair a0 a1 m2).bind fun z4 => (f_X2_in a2 0 5 m2).bind fun z5 => (isO m2 a0 1).bind fun u6 => (f_X2_why a0 z4 z5 m2).bind fun z7 => if z7 = 0 then ((isO m2 a0 1).bind fun u8 => (f_X2_tryDumb a0 a1 a2 0 m2).bind fun m9 => (gL m9 a0 1 41).bind fun z10 => (gL m9 a0 1 39).bind fun z11 => (f_X2_lowest z10 z11 a3 m9).bind fun z12 => some (z12, m9)) else ((isO m2 a0 1).bind fun u13 => bn2 (f_X2_no a0 z7 m2) fun z14 m15 => some ((Int32.toInt64 z14), m15))
set_option maxHeartbeats 4000000 in
theorem c_X2_mean {l : Launch} {G : fk_G} {b0 : Nat} {n : Nat} {a0 : Option Nat} {a1 : Int32} {a2 : Int32} {a3 : Int32} {m0 : fk_M} {r : Int64} {mF : fk_M} (hf : f_X2_mean a0 a1 a2 a3 m0 = some (r, mF)) : fk_Ct l G b0 yX2_mean cX2_mean 5 (some .long) 5 160 [tR a0, tI a1, tI a2, tI a3] n m0 (some (tL r)) n mF 0 0 := by
  refine fk_enter n_X2_mean.1 rfl ?_
  intro E X0 Y
  have X : fk_X E l G b0 "FigureKneeModel" "mean" cX2_mean 5 5 160 0 0 := X0
  show fk_W E 5 n m0 0 0 0 [(0, tR a0), (1, tI a1), (2, tI a2), (3, tI a3)] []
  unfold f_X2_mean at hf
  refine fk_aload_n X 0 dX2_mean_0 rfl ?_
  obtain ⟨u1, hq, hf⟩ := bI hf
  obtain ⟨m2, hv, hf⟩ := bI hf
  refine fk_callV0V (ci := 1) (rest := []) X hq rfl (c_X2_good hv) n_X2_good q1665 q1667 qs63 q126 q1668 rfl dX2_mean_1 rfl rfl rfl rfl rfl (Nat.le_refl _) (Nat.le_refl _) ?_
  refine fk_aload_n X 0 dX2_mean_4 rfl ?_
  refine fk_aload_n X 0 dX2_mean_5 rfl ?_
  refine fk_iload_n X 1 dX2_mean_6 rfl ?_
  obtain ⟨u3, hq, hf⟩ := bI hf
  obtain ⟨z4, hv, hf⟩ := bI hf
  refine fk_callV0I (ci := 1) (rest := [tR a0]) X hq rfl (c_X2_isPair hv) n_X2_isPair q1820 q1822 qs87 q126 q1823 rfl dX2_mean_7 rfl rfl rfl rfl rfl (Nat.le_refl _) (Nat.le_refl _) ?_
  refine fk_iload_n X 2 dX2_mean_10 rfl ?_
  refine fk_iconst (v := 0) X dX2_mean_11 rfl ?_
  refine fk_iconst (v := 5) X dX2_mean_12 rfl ?_
  obtain ⟨z5, hv, hf⟩ := bI hf
  refine fk_callS0I (rest := [tI z4, tR a0]) X (c_X2_in hv) n_X2_in q1669 q1670 q126 q1671 dX2_mean_13 rfl rfl rfl rfl rfl (Nat.le_refl _) (Nat.le_refl _) ?_
  obtain ⟨u6, hq, hf⟩ := bI hf
  obtain ⟨z7, hv, hf⟩ := bI hf
  refine fk_callV0I (ci := 1) (rest := []) X hq rfl (c_X2_why hv) n_X2_why q1836 q1838 qs90 q126 q1839 rfl dX2_mean_16 rfl rfl rfl rfl rfl (Nat.le_refl _) (Nat.le_refl _) ?_
  refine fk_istore X [(4, tI z7), (0, tR a0), (1, tI a1), (2, tI a2), (3, tI a3)] dX2_mean_19 rfl rfl ?_
  refine fk_iload X 0 dX2_mean_21 rfl ?_
  refine fk_if_eq' X 34 dX2_mean_23 rfl hf (fun hf => ?_) (fun hf => ?_)
  · refine fk_aload_n X 1 dX2_mean_34 rfl ?_
    refine fk_iload_n X 2 dX2_mean_35 rfl ?_
    refine fk_iload_n X 3 dX2_mean_36 rfl ?_
    refine fk_iconst (v := 0) X dX2_mean_37 rfl ?_
    obtain ⟨u8, hq, hf⟩ := bI hf
    obtain ⟨m9, hv, hf⟩ := bI hf
    refine fk_callV0V (ci := 1) (rest := []) X hq rfl (c_X2_tryDumb hv) n_X2_tryDumb q2129 q2131 qs118 q126 q2132 rfl dX2_mean_38 rfl rfl rfl rfl rfl (Nat.le_refl _) (Nat.le_refl _) ?_
    refine fk_aload_n X 1 dX2_mean_41 rfl ?_
    refine fk_getL' X fd_1_41 q1567 dX2_mean_42 hf (fun z10 hf => ?_)
    refine fk_aload_n X 1 dX2_mean_45 rfl ?_
    refine fk_getL' X fd_1_39 q1565 dX2_mean_46 hf (fun z11 hf => ?_)
    refine fk_iload_n X 4 dX2_mean_49 rfl ?_
    obtain ⟨z12, hv, hf⟩ := bI hf
    refine fk_callS0J (rest := []) X (c_X2_lowest hv) n_X2_lowest q2108 q2109 q126 q2110 dX2_mean_50 rfl rfl rfl rfl rfl (Nat.le_refl _) (Nat.le_refl _) ?_
    cases hf
    exact fk_lreturn X Y dX2_mean_53
  · refine fk_aload_n X 1 dX2_mean_26 rfl ?_
    refine fk_iload X 0 dX2_mean_27 rfl ?_
    obtain ⟨u13, hq, hf⟩ := bI hf
    obtain ⟨z14, m15, hv, hf⟩ := bn2_eq hf
    refine fk_callV0I (ci := 1) (rest := []) X hq rfl (c_X2_no hv) n_X2_no q1672 q1674 qs64 q126 q1675 rfl dX2_mean_29 rfl rfl rfl rfl rfl (Nat.le_refl _) (Nat.le_refl _) ?_
    refine fk_i2l X dX2_mean_32 ?_
    cases hf
    exact fk_lreturn X Y dX2_mean_33
/-! FigureKneeModel drawn (III)I -/
theorem n_X2_drawn : fk_N yX2_drawn 3 := ⟨by decide +kernel, by decide +kernel, by decide +kernel, by decide +kernel⟩
def f_X2_drawn_L67 (x0 : Option Nat) (x1 : Int32) (x3 : Int32) (m0 : fk_M) : Nat → Int32 → Int32 → Int32 → Option (Int32 × fk_M)
  | 0, _, _, _ => none
  | N + 1, x5, x6, x7 =>
  if x3 < x7 then (some (x6, m0)) else ((gR m0 x0 1 19).bind fun z1 => (aI m0 z1 0 (5 + x1)).bind fun z2 => (gR m0 x0 1 15).bind fun z3 => (aI m0 z3 0 (13 + x1)).bind fun z4 => (gR m0 x0 1 19).bind fun z5 => (aI m0 z5 0 35).bind fun z6 => (gR m0 x0 1 15).bind fun z7 => (aI m0 z7 0 1).bind fun z8 => (isO m0 x0 1).bind fun u9 => (f_X2_behind x0 x1 x6 z2 z4 (z6 + x7) (if z8 ≤ (i_rem (i_rem ((75 * x5) + 74) 65537) 100) then (0 : Int32) else 1) m0).bind fun z10 => f_X2_drawn_L67 x0 x1 x3 m0 N (i_rem ((75 * x5) + 74) 65537) z10 (x7 + 1))
set_option maxHeartbeats 4000000 in
theorem w_X2_drawn_L67 {E : fk_E} {l : Launch} {G : fk_G} {b0 n : Nat} {r : Int32} {mF : fk_M} (X : fk_X E l G b0 "FigureKneeModel" "drawn" cX2_drawn 8 4 132 0 0) (Y : fk_Y E (some .int) (some (tI r)) n mF 0 0) (x0 : Option Nat) (x1 : Int32) (x3 : Int32) (m0 : fk_M) : ∀ (N : Nat) (x5 : Int32) (x6 : Int32) (x7 : Int32), f_X2_drawn_L67 x0 x1 x3 m0 N x5 x6 x7 = some (r, mF) → fk_W E 8 n m0 0 0 67 [(0, tR x0), (1, tI x1), (3, tI x3), (5, tI x5), (6, tI x6), (7, tI x7)] [] := by
  intro N
  induction N with
  | zero =>
    intro x5 x6 x7 hf
    have hf : (none : Option (Int32 × fk_M)) = some _ := hf
    cases hf
  | succ N ih =>
    intro x5 x6 x7 hf
    rw [f_X2_drawn_L67] at hf
    refine fk_iload X 5 dX2_drawn_67 rfl ?_
    refine fk_iload_n X 2 dX2_drawn_69 rfl ?_
    refine fk_icmp_gt' X 148 dX2_drawn_70 rfl hf (fun hf => ?_) (fun hf => ?_)
    · refine fk_iload X 4 dX2_drawn_148 rfl ?_
      cases hf
      exact fk_ireturn X Y dX2_drawn_150 rfl
    · refine fk_bipush (v := 75) X dX2_drawn_73 rfl ?_
      refine fk_iload X 3 dX2_drawn_75 rfl ?_
      refine fk_imul X dX2_drawn_77 ?_
      refine fk_bipush (v := 74) X dX2_drawn_78 rfl ?_
      refine fk_iadd X dX2_drawn_80 ?_
      refine fk_ldcw X q2120 dX2_drawn_81 ?_
      refine fk_irem X dX2_drawn_84 (by decide) ?_
      refine fk_istore X [(5, tI (i_rem ((75 * x5) + 74) 65537)), (0, tR x0), (1, tI x1), (3, tI x3), (6, tI x6), (7, tI x7)] dX2_drawn_85 rfl rfl ?_
      refine fk_aload_n X 1 dX2_drawn_87 rfl ?_
      refine fk_iload_n X 2 dX2_drawn_88 rfl ?_
      refine fk_iload X 4 dX2_drawn_89 rfl ?_
      refine fk_aload_n X 1 dX2_drawn_91 rfl ?_
      refine fk_getR' X fd_1_19 q1545 dX2_drawn_92 hf (fun z1 hf => ?_)
      refine fk_iconst (v := 5) X dX2_drawn_95 rfl ?_
      refine fk_iload_n X 2 dX2_drawn_96 rfl ?_
      refine fk_iadd X dX2_drawn_97 ?_
      refine fk_iaload' X dX2_drawn_98 hf (fun z2 hf => ?_)
      refine fk_aload_n X 1 dX2_drawn_99 rfl ?_
      refine fk_getR' X fd_1_15 q1541 dX2_drawn_100 hf (fun z3 hf => ?_)
      refine fk_bipush (v := 13) X dX2_drawn_103 rfl ?_
      refine fk_iload_n X 2 dX2_drawn_105 rfl ?_
      refine fk_iadd X dX2_drawn_106 ?_
      refine fk_iaload' X dX2_drawn_107 hf (fun z4 hf => ?_)
      refine fk_aload_n X 1 dX2_drawn_108 rfl ?_
      refine fk_getR' X fd_1_19 q1545 dX2_drawn_109 hf (fun z5 hf => ?_)
      refine fk_bipush (v := 35) X dX2_drawn_112 rfl ?_
      refine fk_iaload' X dX2_drawn_114 hf (fun z6 hf => ?_)
      refine fk_iload X 5 dX2_drawn_115 rfl ?_
      refine fk_iadd X dX2_drawn_117 ?_
      refine fk_iload X 0 dX2_drawn_118 rfl ?_
      refine fk_bipush (v := 100) X dX2_drawn_120 rfl ?_
      refine fk_irem X dX2_drawn_122 (by decide) ?_
      refine fk_aload_n X 1 dX2_drawn_123 rfl ?_
      refine fk_getR' X fd_1_15 q1541 dX2_drawn_124 hf (fun z7 hf => ?_)
      refine fk_iconst (v := 1) X dX2_drawn_127 rfl ?_
      refine fk_iaload' X dX2_drawn_128 hf (fun z8 hf => ?_)
      have J1 : fk_W E 8 n m0 0 0 137 [(5, tI (i_rem ((75 * x5) + 74) 65537)), (0, tR x0), (1, tI x1), (3, tI x3), (7, tI x7)] [tI (if z8 ≤ (i_rem (i_rem ((75 * x5) + 74) 65537) 100) then (0 : Int32) else 1), tI (z6 + x7), tI z4, tI z2, tI x6, tI x1, tR x0] := by
        obtain ⟨u9, hq, hf⟩ := bI hf
        obtain ⟨z10, hv, hf⟩ := bI hf
        refine fk_callV0I (ci := 1) (rest := []) X hq rfl (c_X2_behind hv) n_X2_behind q1848 q1850 qs93 q126 q1851 rfl dX2_drawn_137 rfl rfl rfl rfl rfl (Nat.le_refl _) (Nat.le_refl _) ?_
        refine fk_istore X [(6, tI z10), (5, tI (i_rem ((75 * x5) + 74) 65537)), (0, tR x0), (1, tI x1), (3, tI x3), (7, tI x7)] dX2_drawn_140 rfl rfl ?_
        refine fk_iinc X 5 [(7, tI (x7 + 1)), (6, tI z10), (5, tI (i_rem ((75 * x5) + 74) 65537)), (0, tR x0), (1, tI x1), (3, tI x3)] dX2_drawn_142 rfl rfl rfl rfl ?_
        refine fk_goto X 67 dX2_drawn_145 rfl ?_
        exact fk_cut' (ih (i_rem ((75 * x5) + 74) 65537) z10 (x7 + 1)  hf) [3, 4, 5, 2, 1, 0] rfl
      refine fk_icmp_ge X 136 dX2_drawn_129 rfl (fun hc2 => ?_) (fun hc2 => ?_)
      · refine fk_iconst (v := 0) X dX2_drawn_136 rfl ?_
        simp only [if_pos hc2] at J1
        exact fk_cut' J1 [0, 1, 2, 3, 5] rfl
      · refine fk_iconst (v := 1) X dX2_drawn_132 rfl ?_
        refine fk_goto X 137 dX2_drawn_133 rfl ?_
        simp only [if_neg hc2] at J1
        exact fk_cut' J1 [0, 1, 2, 3, 5] rfl
def f_X2_drawn_J36 (x0 : Option Nat) (x1 : Int32) (x2 : Int32) (x3 : Int32) (y0 : Int32) (y1 : Int32) (y2 : Option Nat) (m0 : fk_M) : Option (Int32 × fk_M) :=
  (isO m0 y2 1).bind fun u1 => (f_X2_why y2 y1 y0 m0).bind fun z2 => if z2 = 0 then ((gR m0 x0 1 19).bind fun z3 => (aI m0 z3 0 x1).bind fun z4 => f_X2_drawn_L67 x0 x1 x3 m0 fk_fuel x2 z4 1) else ((isO m0 x0 1).bind fun u5 => bn2 (f_X2_no x0 z2 m0) fun z6 m7 => some (z6, m7))
set_option maxHeartbeats 4000000 in
theorem w_X2_drawn_J36 {E : fk_E} {l : Launch} {G : fk_G} {b0 n : Nat} {r : Int32} {mF : fk_M} (X : fk_X E l G b0 "FigureKneeModel" "drawn" cX2_drawn 8 4 132 0 0) (Y : fk_Y E (some .int) (some (tI r)) n mF 0 0) (x0 : Option Nat) (x1 : Int32) (x2 : Int32) (x3 : Int32) (y0 : Int32) (y1 : Int32) (y2 : Option Nat) (m0 : fk_M) (hf : f_X2_drawn_J36 x0 x1 x2 x3 y0 y1 y2 m0 = some (r, mF)) : fk_W E 8 n m0 0 0 36 [(0, tR x0), (1, tI x1), (2, tI x2), (3, tI x3)] [tI y0, tI y1, tR y2] := by
  unfold f_X2_drawn_J36 at hf
  obtain ⟨u1, hq, hf⟩ := bI hf
  obtain ⟨z2, hv, hf⟩ := bI hf
  refine fk_callV0I (ci := 1) (rest := []) X hq rfl (c_X2_why hv) n_X2_why q1836 q1838 qs90 q126 q1839 rfl dX2_drawn_36 rfl rfl rfl rfl rfl (Nat.le_refl _) (Nat.le_refl _) ?_
  refine fk_istore X [(4, tI z2), (0, tR x0), (1, tI x1), (2, tI x2), (3, tI x3)] dX2_drawn_39 rfl rfl ?_
  refine fk_iload X 0 dX2_drawn_41 rfl ?_
  refine fk_if_eq' X 53 dX2_drawn_43 rfl hf (fun hf => ?_) (fun hf => ?_)
  · refine fk_iload_n X 3 dX2_drawn_53 rfl ?_
    refine fk_istore X [(5, tI x2), (4, tI z2), (0, tR x0), (1, tI x1), (2, tI x2), (3, tI x3)] dX2_drawn_54 rfl rfl ?_
    refine fk_aload_n X 2 dX2_drawn_56 rfl ?_
    refine fk_getR' X fd_1_19 q1545 dX2_drawn_57 hf (fun z3 hf => ?_)
    refine fk_iload_n X 3 dX2_drawn_60 rfl ?_
    refine fk_iaload' X dX2_drawn_61 hf (fun z4 hf => ?_)
    refine fk_istore X [(6, tI z4), (5, tI x2), (4, tI z2), (0, tR x0), (1, tI x1), (2, tI x2), (3, tI x3)] dX2_drawn_62 rfl rfl ?_
    refine fk_iconst (v := 1) X dX2_drawn_64 rfl ?_
    refine fk_istore X [(7, tI 1), (6, tI z4), (5, tI x2), (4, tI z2), (0, tR x0), (1, tI x1), (2, tI x2), (3, tI x3)] dX2_drawn_65 rfl rfl ?_
    exact fk_cut' (w_X2_drawn_L67 X Y x0 x1 x3 m0 fk_fuel x2 z4 1 hf) [4, 5, 7, 2, 1, 0] rfl
  · refine fk_aload_n X 1 dX2_drawn_46 rfl ?_
    refine fk_iload X 0 dX2_drawn_47 rfl ?_
    obtain ⟨u5, hq, hf⟩ := bI hf
    obtain ⟨z6, m7, hv, hf⟩ := bn2_eq hf
    refine fk_callV0I (ci := 1) (rest := []) X hq rfl (c_X2_no hv) n_X2_no q1672 q1674 qs64 q126 q1675 rfl dX2_drawn_49 rfl rfl rfl rfl rfl (Nat.le_refl _) (Nat.le_refl _) ?_
    cases hf
    exact fk_ireturn X Y dX2_drawn_52 rfl
def f_X2_drawn_J35 (x0 : Option Nat) (x1 : Int32) (x2 : Int32) (x3 : Int32) (y0 : Int32) (y1 : Option Nat) (m0 : fk_M) : Option (Int32 × fk_M) :=
  f_X2_drawn_J36 x0 x1 x2 x3 0 y0 y1 m0
set_option maxHeartbeats 4000000 in
theorem w_X2_drawn_J35 {E : fk_E} {l : Launch} {G : fk_G} {b0 n : Nat} {r : Int32} {mF : fk_M} (X : fk_X E l G b0 "FigureKneeModel" "drawn" cX2_drawn 8 4 132 0 0) (Y : fk_Y E (some .int) (some (tI r)) n mF 0 0) (x0 : Option Nat) (x1 : Int32) (x2 : Int32) (x3 : Int32) (y0 : Int32) (y1 : Option Nat) (m0 : fk_M) (hf : f_X2_drawn_J35 x0 x1 x2 x3 y0 y1 m0 = some (r, mF)) : fk_W E 8 n m0 0 0 35 [(0, tR x0), (1, tI x1), (2, tI x2), (3, tI x3)] [tI y0, tR y1] := by
  unfold f_X2_drawn_J35 at hf
  refine fk_iconst (v := 0) X dX2_drawn_35 rfl ?_
  exact fk_cut' (w_X2_drawn_J36 X Y x0 x1 x2 x3 0 y0 y1 m0 hf) [0, 1, 2, 3] rfl
def f_X2_drawn (a0 : Option Nat) (a1 : Int32) (a2 : Int32) (a3 : Int32) (m0 : fk_M) : Option (Int32 × fk_M) :=
  (isO m0 a0 1).bind fun u1 => (f_X2_good a0 m0).bind fun m2 => (isO m2 a0 1).bind fun u3 => (f_X2_isPair a0 a1 m2).bind fun z4 => (f_X2_in a2 0 65536 m2).bind fun z5 => if z5 = 0 then (f_X2_drawn_J35 a0 a1 a2 a3 z4 a0 m2) else ((f_X2_in a3 0 60 m2).bind fun z6 => (isO m2 a0 1).bind fun u7 => (f_X2_why a0 z4 (if z6 = 0 then (0 : Int32) else 1) m2).bind fun z8 => if z8 = 0 then ((gR m2 a0 1 19).bind fun z9 => (aI m2 z9 0 a1).bind fun z10 => f_X2_drawn_L67 a0 a1 a3 m2 fk_fuel a2 z10 1) else ((isO m2 a0 1).bind fun u11 => bn2 (f_X2_no a0 z8 m2) fun z12 m13 => some (z12, m13)))
set_option maxHeartbeats 4000000 in
theorem c_X2_drawn {l : Launch} {G : fk_G} {b0 : Nat} {n : Nat} {a0 : Option Nat} {a1 : Int32} {a2 : Int32} {a3 : Int32} {m0 : fk_M} {r : Int32} {mF : fk_M} (hf : f_X2_drawn a0 a1 a2 a3 m0 = some (r, mF)) : fk_Ct l G b0 yX2_drawn cX2_drawn 8 (some .int) 4 132 [tR a0, tI a1, tI a2, tI a3] n m0 (some (tI r)) n mF 0 0 := by
  refine fk_enter n_X2_drawn.1 rfl ?_
  intro E X0 Y
  have X : fk_X E l G b0 "FigureKneeModel" "drawn" cX2_drawn 8 4 132 0 0 := X0
  show fk_W E 8 n m0 0 0 0 [(0, tR a0), (1, tI a1), (2, tI a2), (3, tI a3)] []
  unfold f_X2_drawn at hf
  refine fk_aload_n X 0 dX2_drawn_0 rfl ?_
  obtain ⟨u1, hq, hf⟩ := bI hf
  obtain ⟨m2, hv, hf⟩ := bI hf
  refine fk_callV0V (ci := 1) (rest := []) X hq rfl (c_X2_good hv) n_X2_good q1665 q1667 qs63 q126 q1668 rfl dX2_drawn_1 rfl rfl rfl rfl rfl (Nat.le_refl _) (Nat.le_refl _) ?_
  refine fk_aload_n X 0 dX2_drawn_4 rfl ?_
  refine fk_aload_n X 0 dX2_drawn_5 rfl ?_
  refine fk_iload_n X 1 dX2_drawn_6 rfl ?_
  obtain ⟨u3, hq, hf⟩ := bI hf
  obtain ⟨z4, hv, hf⟩ := bI hf
  refine fk_callV0I (ci := 1) (rest := [tR a0]) X hq rfl (c_X2_isPair hv) n_X2_isPair q1820 q1822 qs87 q126 q1823 rfl dX2_drawn_7 rfl rfl rfl rfl rfl (Nat.le_refl _) (Nat.le_refl _) ?_
  refine fk_iload_n X 2 dX2_drawn_10 rfl ?_
  refine fk_iconst (v := 0) X dX2_drawn_11 rfl ?_
  refine fk_ldcw X q2119 dX2_drawn_12 ?_
  obtain ⟨z5, hv, hf⟩ := bI hf
  refine fk_callS0I (rest := [tI z4, tR a0]) X (c_X2_in hv) n_X2_in q1669 q1670 q126 q1671 dX2_drawn_15 rfl rfl rfl rfl rfl (Nat.le_refl _) (Nat.le_refl _) ?_
  refine fk_if_eq' X 35 dX2_drawn_18 rfl hf (fun hf => ?_) (fun hf => ?_)
  · exact fk_cut' (w_X2_drawn_J35 X Y a0 a1 a2 a3 z4 a0 m2 hf) [0, 1, 2, 3] rfl
  · refine fk_iload_n X 3 dX2_drawn_21 rfl ?_
    refine fk_iconst (v := 0) X dX2_drawn_22 rfl ?_
    refine fk_bipush (v := 60) X dX2_drawn_23 rfl ?_
    obtain ⟨z6, hv, hf⟩ := bI hf
    refine fk_callS0I (rest := [tI z4, tR a0]) X (c_X2_in hv) n_X2_in q1669 q1670 q126 q1671 dX2_drawn_25 rfl rfl rfl rfl rfl (Nat.le_refl _) (Nat.le_refl _) ?_
    have J1 : fk_W E 8 n m2 0 0 36 [(0, tR a0), (1, tI a1), (2, tI a2), (3, tI a3)] [tI (if z6 = 0 then (0 : Int32) else 1), tI z4, tR a0] := by
      obtain ⟨u7, hq, hf⟩ := bI hf
      obtain ⟨z8, hv, hf⟩ := bI hf
      refine fk_callV0I (ci := 1) (rest := []) X hq rfl (c_X2_why hv) n_X2_why q1836 q1838 qs90 q126 q1839 rfl dX2_drawn_36 rfl rfl rfl rfl rfl (Nat.le_refl _) (Nat.le_refl _) ?_
      refine fk_istore X [(4, tI z8), (0, tR a0), (1, tI a1), (2, tI a2), (3, tI a3)] dX2_drawn_39 rfl rfl ?_
      refine fk_iload X 0 dX2_drawn_41 rfl ?_
      refine fk_if_eq' X 53 dX2_drawn_43 rfl hf (fun hf => ?_) (fun hf => ?_)
      · refine fk_iload_n X 3 dX2_drawn_53 rfl ?_
        refine fk_istore X [(5, tI a2), (4, tI z8), (0, tR a0), (1, tI a1), (2, tI a2), (3, tI a3)] dX2_drawn_54 rfl rfl ?_
        refine fk_aload_n X 2 dX2_drawn_56 rfl ?_
        refine fk_getR' X fd_1_19 q1545 dX2_drawn_57 hf (fun z9 hf => ?_)
        refine fk_iload_n X 3 dX2_drawn_60 rfl ?_
        refine fk_iaload' X dX2_drawn_61 hf (fun z10 hf => ?_)
        refine fk_istore X [(6, tI z10), (5, tI a2), (4, tI z8), (0, tR a0), (1, tI a1), (2, tI a2), (3, tI a3)] dX2_drawn_62 rfl rfl ?_
        refine fk_iconst (v := 1) X dX2_drawn_64 rfl ?_
        refine fk_istore X [(7, tI 1), (6, tI z10), (5, tI a2), (4, tI z8), (0, tR a0), (1, tI a1), (2, tI a2), (3, tI a3)] dX2_drawn_65 rfl rfl ?_
        exact fk_cut' (w_X2_drawn_L67 X Y a0 a1 a3 m2 fk_fuel a2 z10 1 hf) [4, 5, 7, 2, 1, 0] rfl
      · refine fk_aload_n X 1 dX2_drawn_46 rfl ?_
        refine fk_iload X 0 dX2_drawn_47 rfl ?_
        obtain ⟨u11, hq, hf⟩ := bI hf
        obtain ⟨z12, m13, hv, hf⟩ := bn2_eq hf
        refine fk_callV0I (ci := 1) (rest := []) X hq rfl (c_X2_no hv) n_X2_no q1672 q1674 qs64 q126 q1675 rfl dX2_drawn_49 rfl rfl rfl rfl rfl (Nat.le_refl _) (Nat.le_refl _) ?_
        cases hf
        exact fk_ireturn X Y dX2_drawn_52 rfl
    refine fk_if_eq X 35 dX2_drawn_28 rfl (fun hc2 => ?_) (fun hc2 => ?_)
    · refine fk_iconst (v := 0) X dX2_drawn_35 rfl ?_
      simp only [if_pos hc2] at J1
      exact fk_cut' J1 [0, 1, 2, 3] rfl
    · refine fk_iconst (v := 1) X dX2_drawn_31 rfl ?_
      refine fk_goto X 36 dX2_drawn_32 rfl ?_
      simp only [if_neg hc2] at J1
      exact fk_cut' J1 [0, 1, 2, 3] rfl
/-! FigureKneeModel note ()V -/
theorem n_X2_note : fk_N yX2_note 0 := ⟨by decide +kernel, by decide +kernel, by decide +kernel, by decide +kernel⟩
def f_X2_note_J49 (x0 : Option Nat) (m0 : fk_M) : Option fk_M :=
  (gR m0 x0 1 19).bind fun z1 => (gR m0 x0 1 20).bind fun z2 => (gI m0 x0 1 22).bind fun z3 => (f_X2_copy z1 0 z2 (36 * z3) 36 m0).bind fun m4 => (gI m4 x0 1 22).bind fun z5 => (pV m4 x0 1 22 (tI (z5 + 1))).bind fun m6 => some m6
set_option maxHeartbeats 4000000 in
theorem w_X2_note_J49 {E : fk_E} {l : Launch} {G : fk_G} {b0 n : Nat} {mF : fk_M} (X : fk_X E l G b0 "FigureKneeModel" "note" cX2_note 2 2 85 0 0) (Y : fk_Y E none none n mF 0 0) (x0 : Option Nat)  (m0 : fk_M) (hf : f_X2_note_J49 x0 m0 = some mF) : fk_W E 2 n m0 0 0 49 [(0, tR x0)] [] := by
  unfold f_X2_note_J49 at hf
  refine fk_aload_n X 0 dX2_note_49 rfl ?_
  refine fk_getR' X fd_1_19 q1545 dX2_note_50 hf (fun z1 hf => ?_)
  refine fk_iconst (v := 0) X dX2_note_53 rfl ?_
  refine fk_aload_n X 0 dX2_note_54 rfl ?_
  refine fk_getR' X fd_1_20 q1546 dX2_note_55 hf (fun z2 hf => ?_)
  refine fk_bipush (v := 36) X dX2_note_58 rfl ?_
  refine fk_aload_n X 0 dX2_note_60 rfl ?_
  refine fk_getI' X fd_1_22 q1548 dX2_note_61 hf (fun z3 hf => ?_)
  refine fk_imul X dX2_note_64 ?_
  refine fk_bipush (v := 36) X dX2_note_65 rfl ?_
  obtain ⟨m4, hv, hf⟩ := bI hf
  refine fk_callS0V (rest := []) X (c_X2_copy hv) n_X2_copy q1805 q1806 q126 q1807 dX2_note_67 rfl rfl rfl rfl rfl (Nat.le_refl _) (Nat.le_refl _) ?_
  refine fk_aload_n X 0 dX2_note_70 rfl ?_
  refine fk_dup X dX2_note_71 rfl ?_
  refine fk_getI' X fd_1_22 q1548 dX2_note_72 hf (fun z5 hf => ?_)
  refine fk_iconst (v := 1) X dX2_note_75 rfl ?_
  refine fk_iadd X dX2_note_76 ?_
  refine fk_putI' X fd_1_22 q1548 dX2_note_77 (fit_I _) hf (fun m6 hf => ?_)
  cases hf
  exact fk_return X Y dX2_note_80
def f_X2_note_L11 (x0 : Option Nat) : Nat → Int32 → fk_M → Option fk_M
  | 0, _, _ => none
  | N + 1, x1, m0 =>
  if 540 ≤ x1 then ((gI m0 x0 1 22).bind fun z1 => (pV m0 x0 1 22 (tI (z1 - 1))).bind fun m2 => f_X2_note_J49 x0 m2) else ((gR m0 x0 1 20).bind fun z3 => (gR m0 x0 1 20).bind fun z4 => (aI m0 z4 0 (x1 + 36)).bind fun z5 => (sI m0 z3 0 x1 z5).bind fun m6 => f_X2_note_L11 x0 N (x1 + 1) m6)
set_option maxHeartbeats 4000000 in
theorem w_X2_note_L11 {E : fk_E} {l : Launch} {G : fk_G} {b0 n : Nat} {mF : fk_M} (X : fk_X E l G b0 "FigureKneeModel" "note" cX2_note 2 2 85 0 0) (Y : fk_Y E none none n mF 0 0) (x0 : Option Nat) : ∀ (N : Nat) (x1 : Int32) (m0 : fk_M), f_X2_note_L11 x0 N x1 m0 = some mF → fk_W E 2 n m0 0 0 11 [(0, tR x0), (1, tI x1)] [] := by
  intro N
  induction N with
  | zero =>
    intro x1 m0 hf
    have hf : (none : Option fk_M) = some _ := hf
    cases hf
  | succ N ih =>
    intro x1 m0 hf
    rw [f_X2_note_L11] at hf
    refine fk_iload_n X 1 dX2_note_11 rfl ?_
    refine fk_sipush (v := 540) X dX2_note_12 rfl ?_
    refine fk_icmp_ge' X 39 dX2_note_15 rfl hf (fun hf => ?_) (fun hf => ?_)
    · refine fk_aload_n X 0 dX2_note_39 rfl ?_
      refine fk_dup X dX2_note_40 rfl ?_
      refine fk_getI' X fd_1_22 q1548 dX2_note_41 hf (fun z1 hf => ?_)
      refine fk_iconst (v := 1) X dX2_note_44 rfl ?_
      refine fk_isub X dX2_note_45 ?_
      refine fk_putI' X fd_1_22 q1548 dX2_note_46 (fit_I _) hf (fun m2 hf => ?_)
      exact fk_cut' (w_X2_note_J49 X Y x0 m2 hf) [0] rfl
    · refine fk_aload_n X 0 dX2_note_18 rfl ?_
      refine fk_getR' X fd_1_20 q1546 dX2_note_19 hf (fun z3 hf => ?_)
      refine fk_iload_n X 1 dX2_note_22 rfl ?_
      refine fk_aload_n X 0 dX2_note_23 rfl ?_
      refine fk_getR' X fd_1_20 q1546 dX2_note_24 hf (fun z4 hf => ?_)
      refine fk_iload_n X 1 dX2_note_27 rfl ?_
      refine fk_bipush (v := 36) X dX2_note_28 rfl ?_
      refine fk_iadd X dX2_note_30 ?_
      refine fk_iaload' X dX2_note_31 hf (fun z5 hf => ?_)
      refine fk_iastore' X dX2_note_32 hf (fun m6 hf => ?_)
      refine fk_iinc X 1 [(1, tI (x1 + 1)), (0, tR x0)] dX2_note_33 rfl rfl rfl rfl ?_
      refine fk_goto X 11 dX2_note_36 rfl ?_
      exact fk_cut' (ih (x1 + 1) m6  hf) [1, 0] rfl
def f_X2_note (a0 : Option Nat) (m0 : fk_M) : Option fk_M :=
  (gI m0 a0 1 22).bind fun z1 => if z1 = 16 then (f_X2_note_L11 a0 fk_fuel 0 m0) else (f_X2_note_J49 a0 m0)
set_option maxHeartbeats 4000000 in
theorem c_X2_note {l : Launch} {G : fk_G} {b0 : Nat} {n : Nat} {a0 : Option Nat} {m0 : fk_M} {mF : fk_M} (hf : f_X2_note a0 m0 = some mF) : fk_Ct l G b0 yX2_note cX2_note 2 none 2 85 [tR a0] n m0 none n mF 0 0 := by
  refine fk_enter n_X2_note.1 rfl ?_
  intro E X0 Y
  have X : fk_X E l G b0 "FigureKneeModel" "note" cX2_note 2 2 85 0 0 := X0
  show fk_W E 2 n m0 0 0 0 [(0, tR a0)] []
  unfold f_X2_note at hf
  refine fk_aload_n X 0 dX2_note_0 rfl ?_
  refine fk_getI' X fd_1_22 q1548 dX2_note_1 hf (fun z1 hf => ?_)
  refine fk_bipush (v := 16) X dX2_note_4 rfl ?_
  refine fk_icmp_ne' X 49 dX2_note_6 rfl hf (fun hf => ?_) (fun hf => ?_)
  · exact fk_cut' (w_X2_note_J49 X Y a0 m0 hf) [0] rfl
  · refine fk_iconst (v := 0) X dX2_note_9 rfl ?_
    refine fk_istore_n X [(1, tI 0), (0, tR a0)] dX2_note_10 rfl rfl ?_
    exact fk_cut' (w_X2_note_L11 X Y a0 fk_fuel 0 m0 hf) [1, 0] rfl
/-! FigureKneeModel season ()I -/
theorem n_X2_season : fk_N yX2_season 0 := ⟨by decide +kernel, by decide +kernel, by decide +kernel, by decide +kernel⟩
def f_X2_season_L53 (x0 : Option Nat) : Nat → Int32 → fk_M → Option (Int32 × fk_M)
  | 0, _, _ => none
  | N + 1, x1, m0 =>
  (gR m0 x0 1 15).bind fun z1 => (aI m0 z1 0 2).bind fun z2 => if z2 ≤ x1 then ((isO m0 x0 1).bind fun u3 => (f_X2_mastersIn x0 0 m0).bind fun z4 => some (z4, m0)) else ((gR m0 x0 1 19).bind fun z5 => (gR m0 x0 1 19).bind fun z6 => (aI m0 z6 0 x1).bind fun z7 => (gR m0 x0 1 19).bind fun z8 => (aI m0 z8 0 (5 + x1)).bind fun z9 => (gR m0 x0 1 15).bind fun z10 => (aI m0 z10 0 (13 + x1)).bind fun z11 => (gR m0 x0 1 19).bind fun z12 => (aI m0 z12 0 35).bind fun z13 => (isO m0 x0 1).bind fun u14 => (f_X2_behind x0 x1 z7 z9 z11 z13 0 m0).bind fun z15 => (sI m0 z5 0 x1 z15).bind fun m16 => f_X2_season_L53 x0 N (x1 + 1) m16)
set_option maxHeartbeats 4000000 in
theorem w_X2_season_L53 {E : fk_E} {l : Launch} {G : fk_G} {b0 n : Nat} {r : Int32} {mF : fk_M} (X : fk_X E l G b0 "FigureKneeModel" "season" cX2_season 2 7 203 0 0) (Y : fk_Y E (some .int) (some (tI r)) n mF 0 0) (x0 : Option Nat) : ∀ (N : Nat) (x1 : Int32) (m0 : fk_M), f_X2_season_L53 x0 N x1 m0 = some (r, mF) → fk_W E 2 n m0 0 0 53 [(0, tR x0), (1, tI x1)] [] := by
  intro N
  induction N with
  | zero =>
    intro x1 m0 hf
    have hf : (none : Option (Int32 × fk_M)) = some _ := hf
    cases hf
  | succ N ih =>
    intro x1 m0 hf
    rw [f_X2_season_L53] at hf
    refine fk_iload_n X 1 dX2_season_53 rfl ?_
    refine fk_aload_n X 0 dX2_season_54 rfl ?_
    refine fk_getR' X fd_1_15 q1541 dX2_season_55 hf (fun z1 hf => ?_)
    refine fk_iconst (v := 2) X dX2_season_58 rfl ?_
    refine fk_iaload' X dX2_season_59 hf (fun z2 hf => ?_)
    refine fk_icmp_ge' X 111 dX2_season_60 rfl hf (fun hf => ?_) (fun hf => ?_)
    · refine fk_aload_n X 0 dX2_season_111 rfl ?_
      refine fk_iconst (v := 0) X dX2_season_112 rfl ?_
      obtain ⟨u3, hq, hf⟩ := bI hf
      obtain ⟨z4, hv, hf⟩ := bI hf
      refine fk_callV0I (ci := 1) (rest := []) X hq rfl (c_X2_mastersIn hv) n_X2_mastersIn q1925 q1927 qs100 q126 q1928 rfl dX2_season_113 rfl rfl rfl rfl rfl (Nat.le_refl _) (Nat.le_refl _) ?_
      cases hf
      exact fk_ireturn X Y dX2_season_116 rfl
    · refine fk_aload_n X 0 dX2_season_63 rfl ?_
      refine fk_getR' X fd_1_19 q1545 dX2_season_64 hf (fun z5 hf => ?_)
      refine fk_iload_n X 1 dX2_season_67 rfl ?_
      refine fk_aload_n X 0 dX2_season_68 rfl ?_
      refine fk_iload_n X 1 dX2_season_69 rfl ?_
      refine fk_aload_n X 0 dX2_season_70 rfl ?_
      refine fk_getR' X fd_1_19 q1545 dX2_season_71 hf (fun z6 hf => ?_)
      refine fk_iload_n X 1 dX2_season_74 rfl ?_
      refine fk_iaload' X dX2_season_75 hf (fun z7 hf => ?_)
      refine fk_aload_n X 0 dX2_season_76 rfl ?_
      refine fk_getR' X fd_1_19 q1545 dX2_season_77 hf (fun z8 hf => ?_)
      refine fk_iconst (v := 5) X dX2_season_80 rfl ?_
      refine fk_iload_n X 1 dX2_season_81 rfl ?_
      refine fk_iadd X dX2_season_82 ?_
      refine fk_iaload' X dX2_season_83 hf (fun z9 hf => ?_)
      refine fk_aload_n X 0 dX2_season_84 rfl ?_
      refine fk_getR' X fd_1_15 q1541 dX2_season_85 hf (fun z10 hf => ?_)
      refine fk_bipush (v := 13) X dX2_season_88 rfl ?_
      refine fk_iload_n X 1 dX2_season_90 rfl ?_
      refine fk_iadd X dX2_season_91 ?_
      refine fk_iaload' X dX2_season_92 hf (fun z11 hf => ?_)
      refine fk_aload_n X 0 dX2_season_93 rfl ?_
      refine fk_getR' X fd_1_19 q1545 dX2_season_94 hf (fun z12 hf => ?_)
      refine fk_bipush (v := 35) X dX2_season_97 rfl ?_
      refine fk_iaload' X dX2_season_99 hf (fun z13 hf => ?_)
      refine fk_iconst (v := 0) X dX2_season_100 rfl ?_
      obtain ⟨u14, hq, hf⟩ := bI hf
      obtain ⟨z15, hv, hf⟩ := bI hf
      refine fk_callV0I (ci := 1) (rest := [tI x1, tR z5]) X hq rfl (c_X2_behind hv) n_X2_behind q1848 q1850 qs93 q126 q1851 rfl dX2_season_101 rfl rfl rfl rfl rfl (Nat.le_refl _) (Nat.le_refl _) ?_
      refine fk_iastore' X dX2_season_104 hf (fun m16 hf => ?_)
      refine fk_iinc X 1 [(1, tI (x1 + 1)), (0, tR x0)] dX2_season_105 rfl rfl rfl rfl ?_
      refine fk_goto X 53 dX2_season_108 rfl ?_
      exact fk_cut' (ih (x1 + 1) m16  hf) [1, 0] rfl
def f_X2_season (a0 : Option Nat) (m0 : fk_M) : Option (Int32 × fk_M) :=
  (isO m0 a0 1).bind fun u1 => (f_X2_good a0 m0).bind fun m2 => (gI m2 a0 1 14).bind fun z3 => if z3 = 0 then ((isO m2 a0 1).bind fun u4 => bn2 (f_X2_no a0 1 m2) fun z5 m6 => some (z5, m6)) else ((gR m2 a0 1 19).bind fun z7 => (aI m2 z7 0 35).bind fun z8 => if z8 = 999 then ((isO m2 a0 1).bind fun u9 => bn2 (f_X2_no a0 3 m2) fun z10 m11 => some (z10, m11)) else ((isO m2 a0 1).bind fun u12 => (f_X2_note a0 m2).bind fun m13 => (gR m13 a0 1 19).bind fun z14 => (aI m13 z14 0 35).bind fun z15 => (sI m13 z14 0 35 (z15 + 1)).bind fun m16 => f_X2_season_L53 a0 fk_fuel 0 m16))
set_option maxHeartbeats 4000000 in
theorem c_X2_season {l : Launch} {G : fk_G} {b0 : Nat} {n : Nat} {a0 : Option Nat} {m0 : fk_M} {r : Int32} {mF : fk_M} (hf : f_X2_season a0 m0 = some (r, mF)) : fk_Ct l G b0 yX2_season cX2_season 2 (some .int) 7 203 [tR a0] n m0 (some (tI r)) n mF 0 0 := by
  refine fk_enter n_X2_season.1 rfl ?_
  intro E X0 Y
  have X : fk_X E l G b0 "FigureKneeModel" "season" cX2_season 2 7 203 0 0 := X0
  show fk_W E 2 n m0 0 0 0 [(0, tR a0)] []
  unfold f_X2_season at hf
  refine fk_aload_n X 0 dX2_season_0 rfl ?_
  obtain ⟨u1, hq, hf⟩ := bI hf
  obtain ⟨m2, hv, hf⟩ := bI hf
  refine fk_callV0V (ci := 1) (rest := []) X hq rfl (c_X2_good hv) n_X2_good q1665 q1667 qs63 q126 q1668 rfl dX2_season_1 rfl rfl rfl rfl rfl (Nat.le_refl _) (Nat.le_refl _) ?_
  refine fk_aload_n X 0 dX2_season_4 rfl ?_
  refine fk_getI' X fd_1_14 q1540 dX2_season_5 hf (fun z3 hf => ?_)
  refine fk_if_ne' X 17 dX2_season_8 rfl hf (fun hf => ?_) (fun hf => ?_)
  · refine fk_aload_n X 0 dX2_season_17 rfl ?_
    refine fk_getR' X fd_1_19 q1545 dX2_season_18 hf (fun z7 hf => ?_)
    refine fk_bipush (v := 35) X dX2_season_21 rfl ?_
    refine fk_iaload' X dX2_season_23 hf (fun z8 hf => ?_)
    refine fk_sipush (v := 999) X dX2_season_24 rfl ?_
    refine fk_icmp_ne' X 36 dX2_season_27 rfl hf (fun hf => ?_) (fun hf => ?_)
    · refine fk_aload_n X 0 dX2_season_36 rfl ?_
      obtain ⟨u12, hq, hf⟩ := bI hf
      obtain ⟨m13, hv, hf⟩ := bI hf
      refine fk_callV0V (ci := 1) (rest := []) X hq rfl (c_X2_note hv) n_X2_note q2145 q2147 qs119 q126 q2148 rfl dX2_season_37 rfl rfl rfl rfl rfl (Nat.le_refl _) (Nat.le_refl _) ?_
      refine fk_aload_n X 0 dX2_season_40 rfl ?_
      refine fk_getR' X fd_1_19 q1545 dX2_season_41 hf (fun z14 hf => ?_)
      refine fk_bipush (v := 35) X dX2_season_44 rfl ?_
      refine fk_dup2 X dX2_season_46 rfl rfl ?_
      refine fk_iaload' X dX2_season_47 hf (fun z15 hf => ?_)
      refine fk_iconst (v := 1) X dX2_season_48 rfl ?_
      refine fk_iadd X dX2_season_49 ?_
      refine fk_iastore' X dX2_season_50 hf (fun m16 hf => ?_)
      refine fk_iconst (v := 0) X dX2_season_51 rfl ?_
      refine fk_istore_n X [(1, tI 0), (0, tR a0)] dX2_season_52 rfl rfl ?_
      exact fk_cut' (w_X2_season_L53 X Y a0 fk_fuel 0 m16 hf) [1, 0] rfl
    · refine fk_aload_n X 0 dX2_season_30 rfl ?_
      refine fk_iconst (v := 3) X dX2_season_31 rfl ?_
      obtain ⟨u9, hq, hf⟩ := bI hf
      obtain ⟨z10, m11, hv, hf⟩ := bn2_eq hf
      refine fk_callV0I (ci := 1) (rest := []) X hq rfl (c_X2_no hv) n_X2_no q1672 q1674 qs64 q126 q1675 rfl dX2_season_32 rfl rfl rfl rfl rfl (Nat.le_refl _) (Nat.le_refl _) ?_
      cases hf
      exact fk_ireturn X Y dX2_season_35 rfl
  · refine fk_aload_n X 0 dX2_season_11 rfl ?_
    refine fk_iconst (v := 1) X dX2_season_12 rfl ?_
    obtain ⟨u4, hq, hf⟩ := bI hf
    obtain ⟨z5, m6, hv, hf⟩ := bn2_eq hf
    refine fk_callV0I (ci := 1) (rest := []) X hq rfl (c_X2_no hv) n_X2_no q1672 q1674 qs64 q126 q1675 rfl dX2_season_13 rfl rfl rfl rfl rfl (Nat.le_refl _) (Nat.le_refl _) ?_
    cases hf
    exact fk_ireturn X Y dX2_season_16 rfl
/-! FigureKneeModel change (I)I -/
theorem n_X2_change : fk_N yX2_change 1 := ⟨by decide +kernel, by decide +kernel, by decide +kernel, by decide +kernel⟩
def f_X2_change (a0 : Option Nat) (a1 : Int32) (m0 : fk_M) : Option (Int32 × fk_M) :=
  (isO m0 a0 1).bind fun u1 => (f_X2_good a0 m0).bind fun m2 => (isO m2 a0 1).bind fun u3 => (f_X2_isPair a0 a1 m2).bind fun z4 => if z4 = 0 then ((isO m2 a0 1).bind fun u5 => bn2 (f_X2_no a0 1 m2) fun z6 m7 => some (z6, m7)) else ((gR m2 a0 1 19).bind fun z8 => (aI m2 z8 0 a1).bind fun z9 => (gR m2 a0 1 15).bind fun z10 => (aI m2 z10 0 0).bind fun z11 => if (2 * z9) = z11 then ((isO m2 a0 1).bind fun u12 => bn2 (f_X2_no a0 5 m2) fun z13 m14 => some (z13, m14)) else ((isO m2 a0 1).bind fun u15 => (f_X2_note a0 m2).bind fun m16 => (gR m16 a0 1 19).bind fun z17 => (gR m16 a0 1 15).bind fun z18 => (aI m16 z18 0 0).bind fun z19 => (gR m16 a0 1 19).bind fun z20 => (aI m16 z20 0 a1).bind fun z21 => (sI m16 z17 0 a1 (z19 - z21)).bind fun m22 => (gR m22 a0 1 19).bind fun z23 => (aI m22 z23 0 a1).bind fun z24 => some (z24, m22)))
set_option maxHeartbeats 4000000 in
theorem c_X2_change {l : Launch} {G : fk_G} {b0 : Nat} {n : Nat} {a0 : Option Nat} {a1 : Int32} {m0 : fk_M} {r : Int32} {mF : fk_M} (hf : f_X2_change a0 a1 m0 = some (r, mF)) : fk_Ct l G b0 yX2_change cX2_change 2 (some .int) 3 106 [tR a0, tI a1] n m0 (some (tI r)) n mF 0 0 := by
  refine fk_enter n_X2_change.1 rfl ?_
  intro E X0 Y
  have X : fk_X E l G b0 "FigureKneeModel" "change" cX2_change 2 3 106 0 0 := X0
  show fk_W E 2 n m0 0 0 0 [(0, tR a0), (1, tI a1)] []
  unfold f_X2_change at hf
  refine fk_aload_n X 0 dX2_change_0 rfl ?_
  obtain ⟨u1, hq, hf⟩ := bI hf
  obtain ⟨m2, hv, hf⟩ := bI hf
  refine fk_callV0V (ci := 1) (rest := []) X hq rfl (c_X2_good hv) n_X2_good q1665 q1667 qs63 q126 q1668 rfl dX2_change_1 rfl rfl rfl rfl rfl (Nat.le_refl _) (Nat.le_refl _) ?_
  refine fk_aload_n X 0 dX2_change_4 rfl ?_
  refine fk_iload_n X 1 dX2_change_5 rfl ?_
  obtain ⟨u3, hq, hf⟩ := bI hf
  obtain ⟨z4, hv, hf⟩ := bI hf
  refine fk_callV0I (ci := 1) (rest := []) X hq rfl (c_X2_isPair hv) n_X2_isPair q1820 q1822 qs87 q126 q1823 rfl dX2_change_6 rfl rfl rfl rfl rfl (Nat.le_refl _) (Nat.le_refl _) ?_
  refine fk_if_ne' X 18 dX2_change_9 rfl hf (fun hf => ?_) (fun hf => ?_)
  · refine fk_iconst (v := 2) X dX2_change_18 rfl ?_
    refine fk_aload_n X 0 dX2_change_19 rfl ?_
    refine fk_getR' X fd_1_19 q1545 dX2_change_20 hf (fun z8 hf => ?_)
    refine fk_iload_n X 1 dX2_change_23 rfl ?_
    refine fk_iaload' X dX2_change_24 hf (fun z9 hf => ?_)
    refine fk_imul X dX2_change_25 ?_
    refine fk_aload_n X 0 dX2_change_26 rfl ?_
    refine fk_getR' X fd_1_15 q1541 dX2_change_27 hf (fun z10 hf => ?_)
    refine fk_iconst (v := 0) X dX2_change_30 rfl ?_
    refine fk_iaload' X dX2_change_31 hf (fun z11 hf => ?_)
    refine fk_icmp_ne' X 41 dX2_change_32 rfl hf (fun hf => ?_) (fun hf => ?_)
    · refine fk_aload_n X 0 dX2_change_41 rfl ?_
      obtain ⟨u15, hq, hf⟩ := bI hf
      obtain ⟨m16, hv, hf⟩ := bI hf
      refine fk_callV0V (ci := 1) (rest := []) X hq rfl (c_X2_note hv) n_X2_note q2145 q2147 qs119 q126 q2148 rfl dX2_change_42 rfl rfl rfl rfl rfl (Nat.le_refl _) (Nat.le_refl _) ?_
      refine fk_aload_n X 0 dX2_change_45 rfl ?_
      refine fk_getR' X fd_1_19 q1545 dX2_change_46 hf (fun z17 hf => ?_)
      refine fk_iload_n X 1 dX2_change_49 rfl ?_
      refine fk_aload_n X 0 dX2_change_50 rfl ?_
      refine fk_getR' X fd_1_15 q1541 dX2_change_51 hf (fun z18 hf => ?_)
      refine fk_iconst (v := 0) X dX2_change_54 rfl ?_
      refine fk_iaload' X dX2_change_55 hf (fun z19 hf => ?_)
      refine fk_aload_n X 0 dX2_change_56 rfl ?_
      refine fk_getR' X fd_1_19 q1545 dX2_change_57 hf (fun z20 hf => ?_)
      refine fk_iload_n X 1 dX2_change_60 rfl ?_
      refine fk_iaload' X dX2_change_61 hf (fun z21 hf => ?_)
      refine fk_isub X dX2_change_62 ?_
      refine fk_iastore' X dX2_change_63 hf (fun m22 hf => ?_)
      refine fk_aload_n X 0 dX2_change_64 rfl ?_
      refine fk_getR' X fd_1_19 q1545 dX2_change_65 hf (fun z23 hf => ?_)
      refine fk_iload_n X 1 dX2_change_68 rfl ?_
      refine fk_iaload' X dX2_change_69 hf (fun z24 hf => ?_)
      cases hf
      exact fk_ireturn X Y dX2_change_70 rfl
    · refine fk_aload_n X 0 dX2_change_35 rfl ?_
      refine fk_iconst (v := 5) X dX2_change_36 rfl ?_
      obtain ⟨u12, hq, hf⟩ := bI hf
      obtain ⟨z13, m14, hv, hf⟩ := bn2_eq hf
      refine fk_callV0I (ci := 1) (rest := []) X hq rfl (c_X2_no hv) n_X2_no q1672 q1674 qs64 q126 q1675 rfl dX2_change_37 rfl rfl rfl rfl rfl (Nat.le_refl _) (Nat.le_refl _) ?_
      cases hf
      exact fk_ireturn X Y dX2_change_40 rfl
  · refine fk_aload_n X 0 dX2_change_12 rfl ?_
    refine fk_iconst (v := 1) X dX2_change_13 rfl ?_
    obtain ⟨u5, hq, hf⟩ := bI hf
    obtain ⟨z6, m7, hv, hf⟩ := bn2_eq hf
    refine fk_callV0I (ci := 1) (rest := []) X hq rfl (c_X2_no hv) n_X2_no q1672 q1674 qs64 q126 q1675 rfl dX2_change_14 rfl rfl rfl rfl rfl (Nat.le_refl _) (Nat.le_refl _) ?_
    cases hf
    exact fk_ireturn X Y dX2_change_17 rfl
/-! FigureKneeModel isNot (I)Z -/
theorem n_X2_isNot : fk_N yX2_isNot 1 := ⟨by decide +kernel, by decide +kernel, by decide +kernel, by decide +kernel⟩
def f_X2_isNot (a0 : Option Nat) (a1 : Int32) (m0 : fk_M) : Option (Int32 × fk_M) :=
  (pV m0 a0 1 11 (tI a1)).bind fun m1 => some (0, m1)
set_option maxHeartbeats 4000000 in
theorem c_X2_isNot {l : Launch} {G : fk_G} {b0 : Nat} {n : Nat} {a0 : Option Nat} {a1 : Int32} {m0 : fk_M} {r : Int32} {mF : fk_M} (hf : f_X2_isNot a0 a1 m0 = some (r, mF)) : fk_Ct l G b0 yX2_isNot cX2_isNot 2 (some .boolean) 1 60 [tR a0, tI a1] n m0 (some (tI r)) n mF 0 0 := by
  refine fk_enter n_X2_isNot.1 rfl ?_
  intro E X0 Y
  have X : fk_X E l G b0 "FigureKneeModel" "isNot" cX2_isNot 2 1 60 0 0 := X0
  show fk_W E 2 n m0 0 0 0 [(0, tR a0), (1, tI a1)] []
  unfold f_X2_isNot at hf
  refine fk_aload_n X 0 dX2_isNot_0 rfl ?_
  refine fk_iload_n X 1 dX2_isNot_1 rfl ?_
  refine fk_putI' X fd_1_11 q1537 dX2_isNot_2 (fit_I _) hf (fun m1 hf => ?_)
  refine fk_iconst (v := 0) X dX2_isNot_5 rfl ?_
  cases hf
  exact fk_ireturn X Y dX2_isNot_6 (by decide +kernel)
/-! FigureKneeModel step (II)Z -/
theorem n_X2_step : fk_N yX2_step 2 := ⟨by decide +kernel, by decide +kernel, by decide +kernel, by decide +kernel⟩
def f_X2_step (a0 : Option Nat) (a1 : Int32) (a2 : Int32) (m0 : fk_M) : Option (Int32 × fk_M) :=
  (isO m0 a0 1).bind fun u1 => (f_X2_good a0 m0).bind fun m2 => (isO m2 a0 1).bind fun u3 => (f_X2_isPair a0 a1 m2).bind fun z4 => if z4 = 0 then ((isO m2 a0 1).bind fun u5 => bn2 (f_X2_isNot a0 1 m2) fun z6 m7 => if z6 = 0 ∨ z6 = 1 then (some (z6, m7)) else none) else ((f_X2_in a2 0 20 m2).bind fun z8 => if z8 = 0 then ((isO m2 a0 1).bind fun u9 => bn2 (f_X2_isNot a0 2 m2) fun z10 m11 => if z10 = 0 ∨ z10 = 1 then (some (z10, m11)) else none) else ((gR m2 a0 1 19).bind fun z12 => (aI m2 z12 0 (5 + a1)).bind fun z13 => if z13 = a2 then ((isO m2 a0 1).bind fun u14 => bn2 (f_X2_isNot a0 5 m2) fun z15 m16 => if z15 = 0 ∨ z15 = 1 then (some (z15, m16)) else none) else ((isO m2 a0 1).bind fun u17 => (f_X2_note a0 m2).bind fun m18 => (gR m18 a0 1 19).bind fun z19 => (sI m18 z19 0 (5 + a1) a2).bind fun m20 => some (1, m20))))
set_option maxHeartbeats 4000000 in
theorem c_X2_step {l : Launch} {G : fk_G} {b0 : Nat} {n : Nat} {a0 : Option Nat} {a1 : Int32} {a2 : Int32} {m0 : fk_M} {r : Int32} {mF : fk_M} (hf : f_X2_step a0 a1 a2 m0 = some (r, mF)) : fk_Ct l G b0 yX2_step cX2_step 3 (some .boolean) 3 106 [tR a0, tI a1, tI a2] n m0 (some (tI r)) n mF 0 0 := by
  refine fk_enter n_X2_step.1 rfl ?_
  intro E X0 Y
  have X : fk_X E l G b0 "FigureKneeModel" "step" cX2_step 3 3 106 0 0 := X0
  show fk_W E 3 n m0 0 0 0 [(0, tR a0), (1, tI a1), (2, tI a2)] []
  unfold f_X2_step at hf
  refine fk_aload_n X 0 dX2_step_0 rfl ?_
  obtain ⟨u1, hq, hf⟩ := bI hf
  obtain ⟨m2, hv, hf⟩ := bI hf
  refine fk_callV0V (ci := 1) (rest := []) X hq rfl (c_X2_good hv) n_X2_good q1665 q1667 qs63 q126 q1668 rfl dX2_step_1 rfl rfl rfl rfl rfl (Nat.le_refl _) (Nat.le_refl _) ?_
  refine fk_aload_n X 0 dX2_step_4 rfl ?_
  refine fk_iload_n X 1 dX2_step_5 rfl ?_
  obtain ⟨u3, hq, hf⟩ := bI hf
  obtain ⟨z4, hv, hf⟩ := bI hf
  refine fk_callV0I (ci := 1) (rest := []) X hq rfl (c_X2_isPair hv) n_X2_isPair q1820 q1822 qs87 q126 q1823 rfl dX2_step_6 rfl rfl rfl rfl rfl (Nat.le_refl _) (Nat.le_refl _) ?_
  refine fk_if_ne' X 18 dX2_step_9 rfl hf (fun hf => ?_) (fun hf => ?_)
  · refine fk_iload_n X 2 dX2_step_18 rfl ?_
    refine fk_iconst (v := 0) X dX2_step_19 rfl ?_
    refine fk_bipush (v := 20) X dX2_step_20 rfl ?_
    obtain ⟨z8, hv, hf⟩ := bI hf
    refine fk_callS0I (rest := []) X (c_X2_in hv) n_X2_in q1669 q1670 q126 q1671 dX2_step_22 rfl rfl rfl rfl rfl (Nat.le_refl _) (Nat.le_refl _) ?_
    refine fk_if_ne' X 34 dX2_step_25 rfl hf (fun hf => ?_) (fun hf => ?_)
    · refine fk_aload_n X 0 dX2_step_34 rfl ?_
      refine fk_getR' X fd_1_19 q1545 dX2_step_35 hf (fun z12 hf => ?_)
      refine fk_iconst (v := 5) X dX2_step_38 rfl ?_
      refine fk_iload_n X 1 dX2_step_39 rfl ?_
      refine fk_iadd X dX2_step_40 ?_
      refine fk_iaload' X dX2_step_41 hf (fun z13 hf => ?_)
      refine fk_iload_n X 2 dX2_step_42 rfl ?_
      refine fk_icmp_ne' X 52 dX2_step_43 rfl hf (fun hf => ?_) (fun hf => ?_)
      · refine fk_aload_n X 0 dX2_step_52 rfl ?_
        obtain ⟨u17, hq, hf⟩ := bI hf
        obtain ⟨m18, hv, hf⟩ := bI hf
        refine fk_callV0V (ci := 1) (rest := []) X hq rfl (c_X2_note hv) n_X2_note q2145 q2147 qs119 q126 q2148 rfl dX2_step_53 rfl rfl rfl rfl rfl (Nat.le_refl _) (Nat.le_refl _) ?_
        refine fk_aload_n X 0 dX2_step_56 rfl ?_
        refine fk_getR' X fd_1_19 q1545 dX2_step_57 hf (fun z19 hf => ?_)
        refine fk_iconst (v := 5) X dX2_step_60 rfl ?_
        refine fk_iload_n X 1 dX2_step_61 rfl ?_
        refine fk_iadd X dX2_step_62 ?_
        refine fk_iload_n X 2 dX2_step_63 rfl ?_
        refine fk_iastore' X dX2_step_64 hf (fun m20 hf => ?_)
        refine fk_iconst (v := 1) X dX2_step_65 rfl ?_
        cases hf
        exact fk_ireturn X Y dX2_step_66 (by decide +kernel)
      · refine fk_aload_n X 0 dX2_step_46 rfl ?_
        refine fk_iconst (v := 5) X dX2_step_47 rfl ?_
        obtain ⟨u14, hq, hf⟩ := bI hf
        obtain ⟨z15, m16, hv, hf⟩ := bn2_eq hf
        refine fk_callV0I (ci := 1) (rest := []) X hq rfl (c_X2_isNot hv) n_X2_isNot q2157 q2159 qs120 q126 q2160 rfl dX2_step_48 rfl rfl rfl rfl rfl (Nat.le_refl _) (Nat.le_refl _) ?_
        by_cases hz : z15 = 0 ∨ z15 = 1
        · rw [if_pos hz] at hf
          cases hf
          exact fk_ireturn X Y dX2_step_51 (fit_Z hz).1
        · rw [if_neg hz] at hf
          cases hf
    · refine fk_aload_n X 0 dX2_step_28 rfl ?_
      refine fk_iconst (v := 2) X dX2_step_29 rfl ?_
      obtain ⟨u9, hq, hf⟩ := bI hf
      obtain ⟨z10, m11, hv, hf⟩ := bn2_eq hf
      refine fk_callV0I (ci := 1) (rest := []) X hq rfl (c_X2_isNot hv) n_X2_isNot q2157 q2159 qs120 q126 q2160 rfl dX2_step_30 rfl rfl rfl rfl rfl (Nat.le_refl _) (Nat.le_refl _) ?_
      by_cases hz : z10 = 0 ∨ z10 = 1
      · rw [if_pos hz] at hf
        cases hf
        exact fk_ireturn X Y dX2_step_33 (fit_Z hz).1
      · rw [if_neg hz] at hf
        cases hf
  · refine fk_aload_n X 0 dX2_step_12 rfl ?_
    refine fk_iconst (v := 1) X dX2_step_13 rfl ?_
    obtain ⟨u5, hq, hf⟩ := bI hf
    obtain ⟨z6, m7, hv, hf⟩ := bn2_eq hf
    refine fk_callV0I (ci := 1) (rest := []) X hq rfl (c_X2_isNot hv) n_X2_isNot q2157 q2159 qs120 q126 q2160 rfl dX2_step_14 rfl rfl rfl rfl rfl (Nat.le_refl _) (Nat.le_refl _) ?_
    by_cases hz : z6 = 0 ∨ z6 = 1
    · rw [if_pos hz] at hf
      cases hf
      exact fk_ireturn X Y dX2_step_17 (fit_Z hz).1
    · rw [if_neg hz] at hf
      cases hf
/-! FigureKneeModel pay (III)I -/
theorem n_X2_pay : fk_N yX2_pay 3 := ⟨by decide +kernel, by decide +kernel, by decide +kernel, by decide +kernel⟩
def f_X2_pay_J41 (x0 : Option Nat) (x1 : Int32) (x2 : Int32) (x3 : Int32) (x4 : Int32) (m0 : fk_M) : Option (Int32 × fk_M) :=
  if x4 = 0 then ((isO m0 x0 1).bind fun u1 => (f_X2_note x0 m0).bind fun m2 => (gR m2 x0 1 19).bind fun z3 => (aI m2 z3 0 ((10 + (5 * x1)) + x2)).bind fun z4 => (sI m2 z3 0 ((10 + (5 * x1)) + x2) (z4 - x3)).bind fun m5 => (isO m5 x0 1).bind fun u6 => (f_X2_debtOf x0 x1 x2 m5).bind fun z7 => some (z7, m5)) else ((isO m0 x0 1).bind fun u8 => bn2 (f_X2_no x0 x4 m0) fun z9 m10 => some (z9, m10))
set_option maxHeartbeats 4000000 in
theorem w_X2_pay_J41 {E : fk_E} {l : Launch} {G : fk_G} {b0 n : Nat} {r : Int32} {mF : fk_M} (X : fk_X E l G b0 "FigureKneeModel" "pay" cX2_pay 5 4 125 0 0) (Y : fk_Y E (some .int) (some (tI r)) n mF 0 0) (x0 : Option Nat) (x1 : Int32) (x2 : Int32) (x3 : Int32) (x4 : Int32)  (m0 : fk_M) (hf : f_X2_pay_J41 x0 x1 x2 x3 x4 m0 = some (r, mF)) : fk_W E 5 n m0 0 0 41 [(0, tR x0), (1, tI x1), (2, tI x2), (3, tI x3), (4, tI x4)] [] := by
  unfold f_X2_pay_J41 at hf
  refine fk_iload X 4 dX2_pay_41 rfl ?_
  refine fk_if_eq' X 53 dX2_pay_43 rfl hf (fun hf => ?_) (fun hf => ?_)
  · refine fk_aload_n X 0 dX2_pay_53 rfl ?_
    obtain ⟨u1, hq, hf⟩ := bI hf
    obtain ⟨m2, hv, hf⟩ := bI hf
    refine fk_callV0V (ci := 1) (rest := []) X hq rfl (c_X2_note hv) n_X2_note q2145 q2147 qs119 q126 q2148 rfl dX2_pay_54 rfl rfl rfl rfl rfl (Nat.le_refl _) (Nat.le_refl _) ?_
    refine fk_aload_n X 0 dX2_pay_57 rfl ?_
    refine fk_getR' X fd_1_19 q1545 dX2_pay_58 hf (fun z3 hf => ?_)
    refine fk_bipush (v := 10) X dX2_pay_61 rfl ?_
    refine fk_iconst (v := 5) X dX2_pay_63 rfl ?_
    refine fk_iload_n X 1 dX2_pay_64 rfl ?_
    refine fk_imul X dX2_pay_65 ?_
    refine fk_iadd X dX2_pay_66 ?_
    refine fk_iload_n X 2 dX2_pay_67 rfl ?_
    refine fk_iadd X dX2_pay_68 ?_
    refine fk_dup2 X dX2_pay_69 rfl rfl ?_
    refine fk_iaload' X dX2_pay_70 hf (fun z4 hf => ?_)
    refine fk_iload_n X 3 dX2_pay_71 rfl ?_
    refine fk_isub X dX2_pay_72 ?_
    refine fk_iastore' X dX2_pay_73 hf (fun m5 hf => ?_)
    refine fk_aload_n X 0 dX2_pay_74 rfl ?_
    refine fk_iload_n X 1 dX2_pay_75 rfl ?_
    refine fk_iload_n X 2 dX2_pay_76 rfl ?_
    obtain ⟨u6, hq, hf⟩ := bI hf
    obtain ⟨z7, hv, hf⟩ := bI hf
    refine fk_callV0I (ci := 1) (rest := []) X hq rfl (c_X2_debtOf hv) n_X2_debtOf q2028 q2030 qs109 q126 q2031 rfl dX2_pay_77 rfl rfl rfl rfl rfl (Nat.le_refl _) (Nat.le_refl _) ?_
    cases hf
    exact fk_ireturn X Y dX2_pay_80 rfl
  · refine fk_aload_n X 0 dX2_pay_46 rfl ?_
    refine fk_iload X 4 dX2_pay_47 rfl ?_
    obtain ⟨u8, hq, hf⟩ := bI hf
    obtain ⟨z9, m10, hv, hf⟩ := bn2_eq hf
    refine fk_callV0I (ci := 1) (rest := []) X hq rfl (c_X2_no hv) n_X2_no q1672 q1674 qs64 q126 q1675 rfl dX2_pay_49 rfl rfl rfl rfl rfl (Nat.le_refl _) (Nat.le_refl _) ?_
    cases hf
    exact fk_ireturn X Y dX2_pay_52 rfl
def f_X2_pay (a0 : Option Nat) (a1 : Int32) (a2 : Int32) (a3 : Int32) (m0 : fk_M) : Option (Int32 × fk_M) :=
  (isO m0 a0 1).bind fun u1 => (f_X2_good a0 m0).bind fun m2 => (isO m2 a0 1).bind fun u3 => (f_X2_areTwo a0 a1 a2 m2).bind fun z4 => (f_X2_in a3 1 99 m2).bind fun z5 => (isO m2 a0 1).bind fun u6 => (f_X2_why a0 z4 z5 m2).bind fun z7 => if z7 = 0 then ((isO m2 a0 1).bind fun u8 => (f_X2_debtOf a0 a1 a2 m2).bind fun z9 => f_X2_pay_J41 a0 a1 a2 a3 (if a3 ≤ z9 then z7 else 5) m2) else (f_X2_pay_J41 a0 a1 a2 a3 z7 m2)
set_option maxHeartbeats 4000000 in
theorem c_X2_pay {l : Launch} {G : fk_G} {b0 : Nat} {n : Nat} {a0 : Option Nat} {a1 : Int32} {a2 : Int32} {a3 : Int32} {m0 : fk_M} {r : Int32} {mF : fk_M} (hf : f_X2_pay a0 a1 a2 a3 m0 = some (r, mF)) : fk_Ct l G b0 yX2_pay cX2_pay 5 (some .int) 4 125 [tR a0, tI a1, tI a2, tI a3] n m0 (some (tI r)) n mF 0 0 := by
  refine fk_enter n_X2_pay.1 rfl ?_
  intro E X0 Y
  have X : fk_X E l G b0 "FigureKneeModel" "pay" cX2_pay 5 4 125 0 0 := X0
  show fk_W E 5 n m0 0 0 0 [(0, tR a0), (1, tI a1), (2, tI a2), (3, tI a3)] []
  unfold f_X2_pay at hf
  refine fk_aload_n X 0 dX2_pay_0 rfl ?_
  obtain ⟨u1, hq, hf⟩ := bI hf
  obtain ⟨m2, hv, hf⟩ := bI hf
  refine fk_callV0V (ci := 1) (rest := []) X hq rfl (c_X2_good hv) n_X2_good q1665 q1667 qs63 q126 q1668 rfl dX2_pay_1 rfl rfl rfl rfl rfl (Nat.le_refl _) (Nat.le_refl _) ?_
  refine fk_aload_n X 0 dX2_pay_4 rfl ?_
  refine fk_aload_n X 0 dX2_pay_5 rfl ?_
  refine fk_iload_n X 1 dX2_pay_6 rfl ?_
  refine fk_iload_n X 2 dX2_pay_7 rfl ?_
  obtain ⟨u3, hq, hf⟩ := bI hf
  obtain ⟨z4, hv, hf⟩ := bI hf
  refine fk_callV0I (ci := 1) (rest := [tR a0]) X hq rfl (c_X2_areTwo hv) n_X2_areTwo q1913 q1915 qs99 q126 q1916 rfl dX2_pay_8 rfl rfl rfl rfl rfl (Nat.le_refl _) (Nat.le_refl _) ?_
  refine fk_iload_n X 3 dX2_pay_11 rfl ?_
  refine fk_iconst (v := 1) X dX2_pay_12 rfl ?_
  refine fk_bipush (v := 99) X dX2_pay_13 rfl ?_
  obtain ⟨z5, hv, hf⟩ := bI hf
  refine fk_callS0I (rest := [tI z4, tR a0]) X (c_X2_in hv) n_X2_in q1669 q1670 q126 q1671 dX2_pay_15 rfl rfl rfl rfl rfl (Nat.le_refl _) (Nat.le_refl _) ?_
  obtain ⟨u6, hq, hf⟩ := bI hf
  obtain ⟨z7, hv, hf⟩ := bI hf
  refine fk_callV0I (ci := 1) (rest := []) X hq rfl (c_X2_why hv) n_X2_why q1836 q1838 qs90 q126 q1839 rfl dX2_pay_18 rfl rfl rfl rfl rfl (Nat.le_refl _) (Nat.le_refl _) ?_
  refine fk_istore X [(4, tI z7), (0, tR a0), (1, tI a1), (2, tI a2), (3, tI a3)] dX2_pay_21 rfl rfl ?_
  refine fk_iload X 0 dX2_pay_23 rfl ?_
  refine fk_if_ne' X 41 dX2_pay_25 rfl hf (fun hf => ?_) (fun hf => ?_)
  · exact fk_cut' (w_X2_pay_J41 X Y a0 a1 a2 a3 z7 m2 hf) [1, 2, 3, 4, 0] rfl
  · refine fk_iload_n X 4 dX2_pay_28 rfl ?_
    refine fk_aload_n X 1 dX2_pay_29 rfl ?_
    refine fk_iload_n X 2 dX2_pay_30 rfl ?_
    refine fk_iload_n X 3 dX2_pay_31 rfl ?_
    obtain ⟨u8, hq, hf⟩ := bI hf
    obtain ⟨z9, hv, hf⟩ := bI hf
    refine fk_callV0I (ci := 1) (rest := [tI a3]) X hq rfl (c_X2_debtOf hv) n_X2_debtOf q2028 q2030 qs109 q126 q2031 rfl dX2_pay_32 rfl rfl rfl rfl rfl (Nat.le_refl _) (Nat.le_refl _) ?_
    have J1 : fk_W E 5 n m2 0 0 41 [(4, tI (if a3 ≤ z9 then z7 else 5)), (0, tR a0), (1, tI a1), (2, tI a2), (3, tI a3)] [] := by
      exact fk_cut' (w_X2_pay_J41 X Y a0 a1 a2 a3 (if a3 ≤ z9 then z7 else 5) m2 hf) [1, 2, 3, 4, 0] rfl
    refine fk_icmp_le X 41 dX2_pay_35 rfl (fun hc2 => ?_) (fun hc2 => ?_)
    · simp only [if_pos hc2] at J1
      exact fk_cut' J1 [0, 1, 2, 3, 4] rfl
    · refine fk_iconst (v := 5) X dX2_pay_38 rfl ?_
      refine fk_istore X [(4, tI 5), (0, tR a0), (1, tI a1), (2, tI a2), (3, tI a3)] dX2_pay_39 rfl rfl ?_
      simp only [if_neg hc2] at J1
      exact fk_cut' J1 [0, 1, 2, 3, 4] rfl
/-! FigureKneeModel undo ()Z -/
theorem n_X2_undo : fk_N yX2_undo 0 := ⟨by decide +kernel, by decide +kernel, by decide +kernel, by decide +kernel⟩
def f_X2_undo (a0 : Option Nat) (m0 : fk_M) : Option (Int32 × fk_M) :=
  (isO m0 a0 1).bind fun u1 => (f_X2_good a0 m0).bind fun m2 => (gI m2 a0 1 22).bind fun z3 => if z3 = 0 then ((isO m2 a0 1).bind fun u4 => bn2 (f_X2_isNot a0 6 m2) fun z5 m6 => if z5 = 0 ∨ z5 = 1 then (some (z5, m6)) else none) else ((gI m2 a0 1 22).bind fun z7 => (pV m2 a0 1 22 (tI (z7 - 1))).bind fun m8 => (gR m8 a0 1 20).bind fun z9 => (gI m8 a0 1 22).bind fun z10 => (gR m8 a0 1 19).bind fun z11 => (f_X2_copy z9 (36 * z10) z11 0 36 m8).bind fun m12 => some (1, m12))
set_option maxHeartbeats 4000000 in
theorem c_X2_undo {l : Launch} {G : fk_G} {b0 : Nat} {n : Nat} {a0 : Option Nat} {m0 : fk_M} {r : Int32} {mF : fk_M} (hf : f_X2_undo a0 m0 = some (r, mF)) : fk_Ct l G b0 yX2_undo cX2_undo 1 (some .boolean) 2 85 [tR a0] n m0 (some (tI r)) n mF 0 0 := by
  refine fk_enter n_X2_undo.1 rfl ?_
  intro E X0 Y
  have X : fk_X E l G b0 "FigureKneeModel" "undo" cX2_undo 1 2 85 0 0 := X0
  show fk_W E 1 n m0 0 0 0 [(0, tR a0)] []
  unfold f_X2_undo at hf
  refine fk_aload_n X 0 dX2_undo_0 rfl ?_
  obtain ⟨u1, hq, hf⟩ := bI hf
  obtain ⟨m2, hv, hf⟩ := bI hf
  refine fk_callV0V (ci := 1) (rest := []) X hq rfl (c_X2_good hv) n_X2_good q1665 q1667 qs63 q126 q1668 rfl dX2_undo_1 rfl rfl rfl rfl rfl (Nat.le_refl _) (Nat.le_refl _) ?_
  refine fk_aload_n X 0 dX2_undo_4 rfl ?_
  refine fk_getI' X fd_1_22 q1548 dX2_undo_5 hf (fun z3 hf => ?_)
  refine fk_if_ne' X 18 dX2_undo_8 rfl hf (fun hf => ?_) (fun hf => ?_)
  · refine fk_aload_n X 0 dX2_undo_18 rfl ?_
    refine fk_dup X dX2_undo_19 rfl ?_
    refine fk_getI' X fd_1_22 q1548 dX2_undo_20 hf (fun z7 hf => ?_)
    refine fk_iconst (v := 1) X dX2_undo_23 rfl ?_
    refine fk_isub X dX2_undo_24 ?_
    refine fk_putI' X fd_1_22 q1548 dX2_undo_25 (fit_I _) hf (fun m8 hf => ?_)
    refine fk_aload_n X 0 dX2_undo_28 rfl ?_
    refine fk_getR' X fd_1_20 q1546 dX2_undo_29 hf (fun z9 hf => ?_)
    refine fk_bipush (v := 36) X dX2_undo_32 rfl ?_
    refine fk_aload_n X 0 dX2_undo_34 rfl ?_
    refine fk_getI' X fd_1_22 q1548 dX2_undo_35 hf (fun z10 hf => ?_)
    refine fk_imul X dX2_undo_38 ?_
    refine fk_aload_n X 0 dX2_undo_39 rfl ?_
    refine fk_getR' X fd_1_19 q1545 dX2_undo_40 hf (fun z11 hf => ?_)
    refine fk_iconst (v := 0) X dX2_undo_43 rfl ?_
    refine fk_bipush (v := 36) X dX2_undo_44 rfl ?_
    obtain ⟨m12, hv, hf⟩ := bI hf
    refine fk_callS0V (rest := []) X (c_X2_copy hv) n_X2_copy q1805 q1806 q126 q1807 dX2_undo_46 rfl rfl rfl rfl rfl (Nat.le_refl _) (Nat.le_refl _) ?_
    refine fk_iconst (v := 1) X dX2_undo_49 rfl ?_
    cases hf
    exact fk_ireturn X Y dX2_undo_50 (by decide +kernel)
  · refine fk_aload_n X 0 dX2_undo_11 rfl ?_
    refine fk_bipush (v := 6) X dX2_undo_12 rfl ?_
    obtain ⟨u4, hq, hf⟩ := bI hf
    obtain ⟨z5, m6, hv, hf⟩ := bn2_eq hf
    refine fk_callV0I (ci := 1) (rest := []) X hq rfl (c_X2_isNot hv) n_X2_isNot q2157 q2159 qs120 q126 q2160 rfl dX2_undo_14 rfl rfl rfl rfl rfl (Nat.le_refl _) (Nat.le_refl _) ?_
    by_cases hz : z5 = 0 ∨ z5 = 1
    · rw [if_pos hz] at hf
      cases hf
      exact fk_ireturn X Y dX2_undo_17 (fit_Z hz).1
    · rw [if_neg hz] at hf
      cases hf
/-! FigureKneeModel image ()I -/
theorem n_X2_image : fk_N yX2_image 0 := ⟨by decide +kernel, by decide +kernel, by decide +kernel, by decide +kernel⟩
def f_X2_image (a0 : Option Nat) (m0 : fk_M) : Option (Int32 × fk_M) :=
  (isO m0 a0 1).bind fun u1 => (f_X2_good a0 m0).bind fun m2 => (gI m2 a0 1 14).bind fun z3 => if z3 = 0 then ((isO m2 a0 1).bind fun u4 => bn2 (f_X2_no a0 1 m2) fun z5 m6 => some (z5, m6)) else ((gI m2 a0 1 23).bind fun z7 => if z7 = 3 then ((isO m2 a0 1).bind fun u8 => bn2 (f_X2_no a0 3 m2) fun z9 m10 => some (z9, m10)) else ((gR m2 a0 1 19).bind fun z11 => (gR m2 a0 1 21).bind fun z12 => (gI m2 a0 1 23).bind fun z13 => (f_X2_copy z11 0 z12 (36 * z13) 36 m2).bind fun m14 => (gI m14 a0 1 23).bind fun z15 => (pV m14 a0 1 23 (tI (z15 + 1))).bind fun m16 => (gI m16 a0 1 23).bind fun z17 => some ((z17 - 1), m16)))
set_option maxHeartbeats 4000000 in
theorem c_X2_image {l : Launch} {G : fk_G} {b0 : Nat} {n : Nat} {a0 : Option Nat} {m0 : fk_M} {r : Int32} {mF : fk_M} (hf : f_X2_image a0 m0 = some (r, mF)) : fk_Ct l G b0 yX2_image cX2_image 1 (some .int) 2 85 [tR a0] n m0 (some (tI r)) n mF 0 0 := by
  refine fk_enter n_X2_image.1 rfl ?_
  intro E X0 Y
  have X : fk_X E l G b0 "FigureKneeModel" "image" cX2_image 1 2 85 0 0 := X0
  show fk_W E 1 n m0 0 0 0 [(0, tR a0)] []
  unfold f_X2_image at hf
  refine fk_aload_n X 0 dX2_image_0 rfl ?_
  obtain ⟨u1, hq, hf⟩ := bI hf
  obtain ⟨m2, hv, hf⟩ := bI hf
  refine fk_callV0V (ci := 1) (rest := []) X hq rfl (c_X2_good hv) n_X2_good q1665 q1667 qs63 q126 q1668 rfl dX2_image_1 rfl rfl rfl rfl rfl (Nat.le_refl _) (Nat.le_refl _) ?_
  refine fk_aload_n X 0 dX2_image_4 rfl ?_
  refine fk_getI' X fd_1_14 q1540 dX2_image_5 hf (fun z3 hf => ?_)
  refine fk_if_ne' X 17 dX2_image_8 rfl hf (fun hf => ?_) (fun hf => ?_)
  · refine fk_aload_n X 0 dX2_image_17 rfl ?_
    refine fk_getI' X fd_1_23 q1549 dX2_image_18 hf (fun z7 hf => ?_)
    refine fk_iconst (v := 3) X dX2_image_21 rfl ?_
    refine fk_icmp_ne' X 31 dX2_image_22 rfl hf (fun hf => ?_) (fun hf => ?_)
    · refine fk_aload_n X 0 dX2_image_31 rfl ?_
      refine fk_getR' X fd_1_19 q1545 dX2_image_32 hf (fun z11 hf => ?_)
      refine fk_iconst (v := 0) X dX2_image_35 rfl ?_
      refine fk_aload_n X 0 dX2_image_36 rfl ?_
      refine fk_getR' X fd_1_21 q1547 dX2_image_37 hf (fun z12 hf => ?_)
      refine fk_bipush (v := 36) X dX2_image_40 rfl ?_
      refine fk_aload_n X 0 dX2_image_42 rfl ?_
      refine fk_getI' X fd_1_23 q1549 dX2_image_43 hf (fun z13 hf => ?_)
      refine fk_imul X dX2_image_46 ?_
      refine fk_bipush (v := 36) X dX2_image_47 rfl ?_
      obtain ⟨m14, hv, hf⟩ := bI hf
      refine fk_callS0V (rest := []) X (c_X2_copy hv) n_X2_copy q1805 q1806 q126 q1807 dX2_image_49 rfl rfl rfl rfl rfl (Nat.le_refl _) (Nat.le_refl _) ?_
      refine fk_aload_n X 0 dX2_image_52 rfl ?_
      refine fk_dup X dX2_image_53 rfl ?_
      refine fk_getI' X fd_1_23 q1549 dX2_image_54 hf (fun z15 hf => ?_)
      refine fk_iconst (v := 1) X dX2_image_57 rfl ?_
      refine fk_iadd X dX2_image_58 ?_
      refine fk_putI' X fd_1_23 q1549 dX2_image_59 (fit_I _) hf (fun m16 hf => ?_)
      refine fk_aload_n X 0 dX2_image_62 rfl ?_
      refine fk_getI' X fd_1_23 q1549 dX2_image_63 hf (fun z17 hf => ?_)
      refine fk_iconst (v := 1) X dX2_image_66 rfl ?_
      refine fk_isub X dX2_image_67 ?_
      cases hf
      exact fk_ireturn X Y dX2_image_68 rfl
    · refine fk_aload_n X 0 dX2_image_25 rfl ?_
      refine fk_iconst (v := 3) X dX2_image_26 rfl ?_
      obtain ⟨u8, hq, hf⟩ := bI hf
      obtain ⟨z9, m10, hv, hf⟩ := bn2_eq hf
      refine fk_callV0I (ci := 1) (rest := []) X hq rfl (c_X2_no hv) n_X2_no q1672 q1674 qs64 q126 q1675 rfl dX2_image_27 rfl rfl rfl rfl rfl (Nat.le_refl _) (Nat.le_refl _) ?_
      cases hf
      exact fk_ireturn X Y dX2_image_30 rfl
  · refine fk_aload_n X 0 dX2_image_11 rfl ?_
    refine fk_iconst (v := 1) X dX2_image_12 rfl ?_
    obtain ⟨u4, hq, hf⟩ := bI hf
    obtain ⟨z5, m6, hv, hf⟩ := bn2_eq hf
    refine fk_callV0I (ci := 1) (rest := []) X hq rfl (c_X2_no hv) n_X2_no q1672 q1674 qs64 q126 q1675 rfl dX2_image_13 rfl rfl rfl rfl rfl (Nat.le_refl _) (Nat.le_refl _) ?_
    cases hf
    exact fk_ireturn X Y dX2_image_16 rfl
/-! FigureKneeModel back (I)Z -/
theorem n_X2_back : fk_N yX2_back 1 := ⟨by decide +kernel, by decide +kernel, by decide +kernel, by decide +kernel⟩
def f_X2_back (a0 : Option Nat) (a1 : Int32) (m0 : fk_M) : Option (Int32 × fk_M) :=
  (isO m0 a0 1).bind fun u1 => (f_X2_good a0 m0).bind fun m2 => (gI m2 a0 1 23).bind fun z3 => (f_X2_in a1 0 (z3 - 1) m2).bind fun z4 => if z4 = 0 then ((isO m2 a0 1).bind fun u5 => bn2 (f_X2_isNot a0 1 m2) fun z6 m7 => if z6 = 0 ∨ z6 = 1 then (some (z6, m7)) else none) else ((gR m2 a0 1 21).bind fun z8 => (gR m2 a0 1 19).bind fun z9 => (f_X2_copy z8 (36 * a1) z9 0 36 m2).bind fun m10 => (pV m10 a0 1 22 (tI 0)).bind fun m11 => some (1, m11))
set_option maxHeartbeats 4000000 in
theorem c_X2_back {l : Launch} {G : fk_G} {b0 : Nat} {n : Nat} {a0 : Option Nat} {a1 : Int32} {m0 : fk_M} {r : Int32} {mF : fk_M} (hf : f_X2_back a0 a1 m0 = some (r, mF)) : fk_Ct l G b0 yX2_back cX2_back 2 (some .boolean) 2 85 [tR a0, tI a1] n m0 (some (tI r)) n mF 0 0 := by
  refine fk_enter n_X2_back.1 rfl ?_
  intro E X0 Y
  have X : fk_X E l G b0 "FigureKneeModel" "back" cX2_back 2 2 85 0 0 := X0
  show fk_W E 2 n m0 0 0 0 [(0, tR a0), (1, tI a1)] []
  unfold f_X2_back at hf
  refine fk_aload_n X 0 dX2_back_0 rfl ?_
  obtain ⟨u1, hq, hf⟩ := bI hf
  obtain ⟨m2, hv, hf⟩ := bI hf
  refine fk_callV0V (ci := 1) (rest := []) X hq rfl (c_X2_good hv) n_X2_good q1665 q1667 qs63 q126 q1668 rfl dX2_back_1 rfl rfl rfl rfl rfl (Nat.le_refl _) (Nat.le_refl _) ?_
  refine fk_iload_n X 1 dX2_back_4 rfl ?_
  refine fk_iconst (v := 0) X dX2_back_5 rfl ?_
  refine fk_aload_n X 0 dX2_back_6 rfl ?_
  refine fk_getI' X fd_1_23 q1549 dX2_back_7 hf (fun z3 hf => ?_)
  refine fk_iconst (v := 1) X dX2_back_10 rfl ?_
  refine fk_isub X dX2_back_11 ?_
  obtain ⟨z4, hv, hf⟩ := bI hf
  refine fk_callS0I (rest := []) X (c_X2_in hv) n_X2_in q1669 q1670 q126 q1671 dX2_back_12 rfl rfl rfl rfl rfl (Nat.le_refl _) (Nat.le_refl _) ?_
  refine fk_if_ne' X 24 dX2_back_15 rfl hf (fun hf => ?_) (fun hf => ?_)
  · refine fk_aload_n X 0 dX2_back_24 rfl ?_
    refine fk_getR' X fd_1_21 q1547 dX2_back_25 hf (fun z8 hf => ?_)
    refine fk_bipush (v := 36) X dX2_back_28 rfl ?_
    refine fk_iload_n X 1 dX2_back_30 rfl ?_
    refine fk_imul X dX2_back_31 ?_
    refine fk_aload_n X 0 dX2_back_32 rfl ?_
    refine fk_getR' X fd_1_19 q1545 dX2_back_33 hf (fun z9 hf => ?_)
    refine fk_iconst (v := 0) X dX2_back_36 rfl ?_
    refine fk_bipush (v := 36) X dX2_back_37 rfl ?_
    obtain ⟨m10, hv, hf⟩ := bI hf
    refine fk_callS0V (rest := []) X (c_X2_copy hv) n_X2_copy q1805 q1806 q126 q1807 dX2_back_39 rfl rfl rfl rfl rfl (Nat.le_refl _) (Nat.le_refl _) ?_
    refine fk_aload_n X 0 dX2_back_42 rfl ?_
    refine fk_iconst (v := 0) X dX2_back_43 rfl ?_
    refine fk_putI' X fd_1_22 q1548 dX2_back_44 (fit_I _) hf (fun m11 hf => ?_)
    refine fk_iconst (v := 1) X dX2_back_47 rfl ?_
    cases hf
    exact fk_ireturn X Y dX2_back_48 (by decide +kernel)
  · refine fk_aload_n X 0 dX2_back_18 rfl ?_
    refine fk_iconst (v := 1) X dX2_back_19 rfl ?_
    obtain ⟨u5, hq, hf⟩ := bI hf
    obtain ⟨z6, m7, hv, hf⟩ := bn2_eq hf
    refine fk_callV0I (ci := 1) (rest := []) X hq rfl (c_X2_isNot hv) n_X2_isNot q2157 q2159 qs120 q126 q2160 rfl dX2_back_20 rfl rfl rfl rfl rfl (Nat.le_refl _) (Nat.le_refl _) ?_
    by_cases hz : z6 = 0 ∨ z6 = 1
    · rw [if_pos hz] at hf
      cases hf
      exact fk_ireturn X Y dX2_back_23 (fit_Z hz).1
    · rw [if_neg hz] at hf
      cases hf
/-! FigureKneeModel size (I)I -/
theorem n_X2_size : fk_N yX2_size 1 := ⟨by decide +kernel, by decide +kernel, by decide +kernel, by decide +kernel⟩
def f_X2_size (a0 : Option Nat) (a1 : Int32) (m0 : fk_M) : Option (Int32 × fk_M) :=
  (pV m0 a0 1 0 (tI 0)).bind fun m1 => if a1 = 10 then ((gI m1 a0 1 2).bind fun z2 => some (z2, m1)) else ((gI m1 a0 1 14).bind fun z3 => if z3 = 0 then ((f_X2_in a1 0 9 m1).bind fun z4 => some ((if z4 = 0 then ((-1) : Int32) else 0), m1)) else ((f_X2_in a1 0 6 m1).bind fun z5 => if z5 = 0 then (if a1 = 7 then ((gR m1 a0 1 19).bind fun z6 => (aI m1 z6 0 35).bind fun z7 => some (z7, m1)) else (if a1 = 8 then ((gI m1 a0 1 22).bind fun z8 => some (z8, m1)) else (if a1 = 9 then ((gI m1 a0 1 23).bind fun z9 => some (z9, m1)) else (some ((-1), m1))))) else ((gR m1 a0 1 15).bind fun z10 => (aI m1 z10 0 a1).bind fun z11 => some (z11, m1))))
set_option maxHeartbeats 4000000 in
theorem c_X2_size {l : Launch} {G : fk_G} {b0 : Nat} {n : Nat} {a0 : Option Nat} {a1 : Int32} {m0 : fk_M} {r : Int32} {mF : fk_M} (hf : f_X2_size a0 a1 m0 = some (r, mF)) : fk_Ct l G b0 yX2_size cX2_size 2 (some .int) 2 82 [tR a0, tI a1] n m0 (some (tI r)) n mF 0 0 := by
  refine fk_enter n_X2_size.1 rfl ?_
  intro E X0 Y
  have X : fk_X E l G b0 "FigureKneeModel" "size" cX2_size 2 2 82 0 0 := X0
  show fk_W E 2 n m0 0 0 0 [(0, tR a0), (1, tI a1)] []
  unfold f_X2_size at hf
  refine fk_aload_n X 0 dX2_size_0 rfl ?_
  refine fk_iconst (v := 0) X dX2_size_1 rfl ?_
  refine fk_putI' X fd_1_0 q1526 dX2_size_2 (fit_I _) hf (fun m1 hf => ?_)
  refine fk_iload_n X 1 dX2_size_5 rfl ?_
  refine fk_bipush (v := 10) X dX2_size_6 rfl ?_
  refine fk_icmp_ne' X 16 dX2_size_8 rfl hf (fun hf => ?_) (fun hf => ?_)
  · refine fk_aload_n X 0 dX2_size_16 rfl ?_
    refine fk_getI' X fd_1_14 q1540 dX2_size_17 hf (fun z3 hf => ?_)
    refine fk_if_ne' X 39 dX2_size_20 rfl hf (fun hf => ?_) (fun hf => ?_)
    · refine fk_iload_n X 1 dX2_size_39 rfl ?_
      refine fk_iconst (v := 0) X dX2_size_40 rfl ?_
      refine fk_bipush (v := 6) X dX2_size_41 rfl ?_
      obtain ⟨z5, hv, hf⟩ := bI hf
      refine fk_callS0I (rest := []) X (c_X2_in hv) n_X2_in q1669 q1670 q126 q1671 dX2_size_43 rfl rfl rfl rfl rfl (Nat.le_refl _) (Nat.le_refl _) ?_
      refine fk_if_eq' X 56 dX2_size_46 rfl hf (fun hf => ?_) (fun hf => ?_)
      · refine fk_iload_n X 1 dX2_size_56 rfl ?_
        refine fk_bipush (v := 7) X dX2_size_57 rfl ?_
        refine fk_icmp_ne' X 72 dX2_size_59 rfl hf (fun hf => ?_) (fun hf => ?_)
        · refine fk_iload_n X 1 dX2_size_72 rfl ?_
          refine fk_bipush (v := 8) X dX2_size_73 rfl ?_
          refine fk_icmp_ne' X 85 dX2_size_75 rfl hf (fun hf => ?_) (fun hf => ?_)
          · refine fk_iload_n X 1 dX2_size_85 rfl ?_
            refine fk_bipush (v := 9) X dX2_size_86 rfl ?_
            refine fk_icmp_ne' X 98 dX2_size_88 rfl hf (fun hf => ?_) (fun hf => ?_)
            · refine fk_iconst (v := (-1)) X dX2_size_98 rfl ?_
              cases hf
              exact fk_ireturn X Y dX2_size_99 rfl
            · refine fk_aload_n X 0 dX2_size_91 rfl ?_
              refine fk_getI' X fd_1_23 q1549 dX2_size_92 hf (fun z9 hf => ?_)
              refine fk_goto X 99 dX2_size_95 rfl ?_
              cases hf
              exact fk_ireturn X Y dX2_size_99 rfl
          · refine fk_aload_n X 0 dX2_size_78 rfl ?_
            refine fk_getI' X fd_1_22 q1548 dX2_size_79 hf (fun z8 hf => ?_)
            refine fk_goto X 99 dX2_size_82 rfl ?_
            cases hf
            exact fk_ireturn X Y dX2_size_99 rfl
        · refine fk_aload_n X 0 dX2_size_62 rfl ?_
          refine fk_getR' X fd_1_19 q1545 dX2_size_63 hf (fun z6 hf => ?_)
          refine fk_bipush (v := 35) X dX2_size_66 rfl ?_
          refine fk_iaload' X dX2_size_68 hf (fun z7 hf => ?_)
          refine fk_goto X 99 dX2_size_69 rfl ?_
          cases hf
          exact fk_ireturn X Y dX2_size_99 rfl
      · refine fk_aload_n X 0 dX2_size_49 rfl ?_
        refine fk_getR' X fd_1_15 q1541 dX2_size_50 hf (fun z10 hf => ?_)
        refine fk_iload_n X 1 dX2_size_53 rfl ?_
        refine fk_iaload' X dX2_size_54 hf (fun z11 hf => ?_)
        cases hf
        exact fk_ireturn X Y dX2_size_55 rfl
    · refine fk_iload_n X 1 dX2_size_23 rfl ?_
      refine fk_iconst (v := 0) X dX2_size_24 rfl ?_
      refine fk_bipush (v := 9) X dX2_size_25 rfl ?_
      obtain ⟨z4, hv, hf⟩ := bI hf
      refine fk_callS0I (rest := []) X (c_X2_in hv) n_X2_in q1669 q1670 q126 q1671 dX2_size_27 rfl rfl rfl rfl rfl (Nat.le_refl _) (Nat.le_refl _) ?_
      have J1 : fk_W E 2 n m1 0 0 38 [] [tI (if z4 = 0 then ((-1) : Int32) else 0)] := by
        cases hf
        exact fk_ireturn X Y dX2_size_38 rfl
      refine fk_if_eq X 37 dX2_size_30 rfl (fun hc2 => ?_) (fun hc2 => ?_)
      · refine fk_iconst (v := (-1)) X dX2_size_37 rfl ?_
        simp only [if_pos hc2] at J1
        exact fk_cut' J1 [] rfl
      · refine fk_iconst (v := 0) X dX2_size_33 rfl ?_
        refine fk_goto X 38 dX2_size_34 rfl ?_
        simp only [if_neg hc2] at J1
        exact fk_cut' J1 [] rfl
  · refine fk_aload_n X 0 dX2_size_11 rfl ?_
    refine fk_getI' X fd_1_2 q1528 dX2_size_12 hf (fun z2 hf => ?_)
    cases hf
    exact fk_ireturn X Y dX2_size_15 rfl
/-! FigureKneeModel trouble ()I -/
theorem n_X2_trouble : fk_N yX2_trouble 0 := ⟨by decide +kernel, by decide +kernel, by decide +kernel, by decide +kernel⟩
def f_X2_trouble (a0 : Option Nat) (m0 : fk_M) : Option (Int32 × fk_M) :=
  (pV m0 a0 1 0 (tI 0)).bind fun m1 => (gI m1 a0 1 11).bind fun z2 => some (z2, m1)
set_option maxHeartbeats 4000000 in
theorem c_X2_trouble {l : Launch} {G : fk_G} {b0 : Nat} {n : Nat} {a0 : Option Nat} {m0 : fk_M} {r : Int32} {mF : fk_M} (hf : f_X2_trouble a0 m0 = some (r, mF)) : fk_Ct l G b0 yX2_trouble cX2_trouble 1 (some .int) 1 60 [tR a0] n m0 (some (tI r)) n mF 0 0 := by
  refine fk_enter n_X2_trouble.1 rfl ?_
  intro E X0 Y
  have X : fk_X E l G b0 "FigureKneeModel" "trouble" cX2_trouble 1 1 60 0 0 := X0
  show fk_W E 1 n m0 0 0 0 [(0, tR a0)] []
  unfold f_X2_trouble at hf
  refine fk_aload_n X 0 dX2_trouble_0 rfl ?_
  refine fk_iconst (v := 0) X dX2_trouble_1 rfl ?_
  refine fk_putI' X fd_1_0 q1526 dX2_trouble_2 (fit_I _) hf (fun m1 hf => ?_)
  refine fk_aload_n X 0 dX2_trouble_5 rfl ?_
  refine fk_getI' X fd_1_11 q1537 dX2_trouble_6 hf (fun z2 hf => ?_)
  cases hf
  exact fk_ireturn X Y dX2_trouble_9 rfl
/-! FigureKneeModel led (I)I -/
theorem n_X2_led : fk_N yX2_led 1 := ⟨by decide +kernel, by decide +kernel, by decide +kernel, by decide +kernel⟩
def f_X2_led_J58 (x0 : Option Nat) (m0 : fk_M) : Option (Int32 × fk_M) :=
  (pV m0 x0 1 0 (tI 1)).bind fun m1 => some (0, m1)
set_option maxHeartbeats 4000000 in
theorem w_X2_led_J58 {E : fk_E} {l : Launch} {G : fk_G} {b0 n : Nat} {r : Int32} {mF : fk_M} (X : fk_X E l G b0 "FigureKneeModel" "led" cX2_led 4 2 81 0 0) (Y : fk_Y E (some .int) (some (tI r)) n mF 0 0) (x0 : Option Nat)  (m0 : fk_M) (hf : f_X2_led_J58 x0 m0 = some (r, mF)) : fk_W E 4 n m0 0 0 58 [(0, tR x0)] [] := by
  unfold f_X2_led_J58 at hf
  refine fk_aload_n X 0 dX2_led_58 rfl ?_
  refine fk_iconst (v := 1) X dX2_led_59 rfl ?_
  refine fk_putI' X fd_1_0 q1526 dX2_led_60 (fit_I _) hf (fun m1 hf => ?_)
  refine fk_iconst (v := 0) X dX2_led_63 rfl ?_
  cases hf
  exact fk_ireturn X Y dX2_led_64 rfl
def f_X2_led_J52 (R4 : Int32 → Int32 → Option (Int32 × fk_M)) (x0 : Option Nat) (x1 : Int32) (x2 : Int32) (x3 : Int32) (m0 : fk_M) : Option (Int32 × fk_M) :=
  R4 x2 (x3 + 1)
set_option maxHeartbeats 4000000 in
theorem w_X2_led_J52 {E : fk_E} {l : Launch} {G : fk_G} {b0 n : Nat} {r : Int32} {mF : fk_M} (X : fk_X E l G b0 "FigureKneeModel" "led" cX2_led 4 2 81 0 0) (Y : fk_Y E (some .int) (some (tI r)) n mF 0 0) (x0 : Option Nat) (x1 : Int32) (x2 : Int32) (x3 : Int32)  (m0 : fk_M) {R4 : Int32 → Int32 → Option (Int32 × fk_M)} (hR4 : ∀ (v2 : Int32) (v3 : Int32), R4 v2 v3 = some (r, mF) → fk_W E 4 n m0 0 0 4 [(0, tR x0), (1, tI x1), (2, tI v2), (3, tI v3)] []) (hf : f_X2_led_J52 R4 x0 x1 x2 x3 m0 = some (r, mF)) : fk_W E 4 n m0 0 0 52 [(0, tR x0), (1, tI x1), (2, tI x2), (3, tI x3)] [] := by
  unfold f_X2_led_J52 at hf
  refine fk_iinc X 3 [(3, tI (x3 + 1)), (0, tR x0), (1, tI x1), (2, tI x2)] dX2_led_52 rfl rfl rfl rfl ?_
  refine fk_goto X 4 dX2_led_55 rfl ?_
  exact fk_cut' (hR4 x2 (x3 + 1)  hf) [1, 2, 3, 0] rfl
def f_X2_led_L4 (x0 : Option Nat) (x1 : Int32) (m0 : fk_M) : Nat → Int32 → Int32 → Option (Int32 × fk_M)
  | 0, _, _ => none
  | N + 1, x2, x3 =>
  (gI m0 x0 1 14).bind fun z1 => if z1 = 0 then (f_X2_led_J58 x0 m0) else ((gR m0 x0 1 15).bind fun z2 => (aI m0 z2 0 2).bind fun z3 => if z3 ≤ x3 then (f_X2_led_J58 x0 m0) else ((gR m0 x0 1 19).bind fun z4 => (aI m0 z4 0 x3).bind fun z5 => (isO m0 x0 1).bind fun u6 => (f_X2_isMore x0 z5 m0).bind fun z7 => if z7 = 0 then (f_X2_led_J52 (f_X2_led_L4 x0 x1 m0 N) x0 x1 x2 x3 m0) else (if x2 = x1 then ((pV m0 x0 1 0 (tI 0)).bind fun m8 => some (x3, m8)) else (f_X2_led_J52 (f_X2_led_L4 x0 x1 m0 N) x0 x1 (x2 + 1) x3 m0))))
set_option maxHeartbeats 4000000 in
theorem w_X2_led_L4 {E : fk_E} {l : Launch} {G : fk_G} {b0 n : Nat} {r : Int32} {mF : fk_M} (X : fk_X E l G b0 "FigureKneeModel" "led" cX2_led 4 2 81 0 0) (Y : fk_Y E (some .int) (some (tI r)) n mF 0 0) (x0 : Option Nat) (x1 : Int32) (m0 : fk_M) : ∀ (N : Nat) (x2 : Int32) (x3 : Int32), f_X2_led_L4 x0 x1 m0 N x2 x3 = some (r, mF) → fk_W E 4 n m0 0 0 4 [(0, tR x0), (1, tI x1), (2, tI x2), (3, tI x3)] [] := by
  intro N
  induction N with
  | zero =>
    intro x2 x3 hf
    have hf : (none : Option (Int32 × fk_M)) = some _ := hf
    cases hf
  | succ N ih =>
    intro x2 x3 hf
    rw [f_X2_led_L4] at hf
    refine fk_aload_n X 0 dX2_led_4 rfl ?_
    refine fk_getI' X fd_1_14 q1540 dX2_led_5 hf (fun z1 hf => ?_)
    refine fk_if_eq' X 58 dX2_led_8 rfl hf (fun hf => ?_) (fun hf => ?_)
    · exact fk_cut' (w_X2_led_J58 X Y x0 m0 hf) [0] rfl
    · refine fk_iload_n X 3 dX2_led_11 rfl ?_
      refine fk_aload_n X 0 dX2_led_12 rfl ?_
      refine fk_getR' X fd_1_15 q1541 dX2_led_13 hf (fun z2 hf => ?_)
      refine fk_iconst (v := 2) X dX2_led_16 rfl ?_
      refine fk_iaload' X dX2_led_17 hf (fun z3 hf => ?_)
      refine fk_icmp_ge' X 58 dX2_led_18 rfl hf (fun hf => ?_) (fun hf => ?_)
      · exact fk_cut' (w_X2_led_J58 X Y x0 m0 hf) [0] rfl
      · refine fk_aload_n X 0 dX2_led_21 rfl ?_
        refine fk_aload_n X 0 dX2_led_22 rfl ?_
        refine fk_getR' X fd_1_19 q1545 dX2_led_23 hf (fun z4 hf => ?_)
        refine fk_iload_n X 3 dX2_led_26 rfl ?_
        refine fk_iaload' X dX2_led_27 hf (fun z5 hf => ?_)
        obtain ⟨u6, hq, hf⟩ := bI hf
        obtain ⟨z7, hv, hf⟩ := bI hf
        refine fk_callV0I (ci := 1) (rest := []) X hq rfl (c_X2_isMore hv) n_X2_isMore q1824 q1826 qs88 q126 q1827 rfl dX2_led_28 rfl rfl rfl rfl rfl (Nat.le_refl _) (Nat.le_refl _) ?_
        refine fk_if_ne' X 37 dX2_led_31 rfl hf (fun hf => ?_) (fun hf => ?_)
        · refine fk_iload_n X 2 dX2_led_37 rfl ?_
          refine fk_iload_n X 1 dX2_led_38 rfl ?_
          refine fk_icmp_ne' X 49 dX2_led_39 rfl hf (fun hf => ?_) (fun hf => ?_)
          · refine fk_iinc X 2 [(2, tI (x2 + 1)), (0, tR x0), (1, tI x1), (3, tI x3)] dX2_led_49 rfl rfl rfl rfl ?_
            exact fk_cut' (w_X2_led_J52 X Y x0 x1 (x2 + 1) x3 m0 ih hf) [1, 2, 0, 3] rfl
          · refine fk_aload_n X 0 dX2_led_42 rfl ?_
            refine fk_iconst (v := 0) X dX2_led_43 rfl ?_
            refine fk_putI' X fd_1_0 q1526 dX2_led_44 (fit_I _) hf (fun m8 hf => ?_)
            refine fk_iload_n X 3 dX2_led_47 rfl ?_
            cases hf
            exact fk_ireturn X Y dX2_led_48 rfl
        · refine fk_goto X 52 dX2_led_34 rfl ?_
          exact fk_cut' (w_X2_led_J52 X Y x0 x1 x2 x3 m0 ih hf) [0, 1, 2, 3] rfl
def f_X2_led (a0 : Option Nat) (a1 : Int32) (m0 : fk_M) : Option (Int32 × fk_M) :=
  f_X2_led_L4 a0 a1 m0 fk_fuel 0 0
set_option maxHeartbeats 4000000 in
theorem c_X2_led {l : Launch} {G : fk_G} {b0 : Nat} {n : Nat} {a0 : Option Nat} {a1 : Int32} {m0 : fk_M} {r : Int32} {mF : fk_M} (hf : f_X2_led a0 a1 m0 = some (r, mF)) : fk_Ct l G b0 yX2_led cX2_led 4 (some .int) 2 81 [tR a0, tI a1] n m0 (some (tI r)) n mF 0 0 := by
  refine fk_enter n_X2_led.1 rfl ?_
  intro E X0 Y
  have X : fk_X E l G b0 "FigureKneeModel" "led" cX2_led 4 2 81 0 0 := X0
  show fk_W E 4 n m0 0 0 0 [(0, tR a0), (1, tI a1)] []
  unfold f_X2_led at hf
  refine fk_iconst (v := 0) X dX2_led_0 rfl ?_
  refine fk_istore_n X [(2, tI 0), (0, tR a0), (1, tI a1)] dX2_led_1 rfl rfl ?_
  refine fk_iconst (v := 0) X dX2_led_2 rfl ?_
  refine fk_istore_n X [(3, tI 0), (2, tI 0), (0, tR a0), (1, tI a1)] dX2_led_3 rfl rfl ?_
  exact fk_cut' (w_X2_led_L4 X Y a0 a1 m0 fk_fuel 0 0 hf) [2, 3, 1, 0] rfl
