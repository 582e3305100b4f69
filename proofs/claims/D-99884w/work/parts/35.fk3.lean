set_option maxRecDepth 100000
/-! FigureKnee mean (IIZ)J -/
theorem n_X1_mean : fk_N yX1_mean 3 := ⟨by decide +kernel, by decide +kernel, by decide +kernel, by decide +kernel⟩
def f_X1_mean_L33 (x0 : Option Nat) (x1 : Int32) (x2 : Int32) (x3 : Int32) (m0 : fk_M) : Nat → Int64 → Int32 → Option (Int64 × fk_M)
  | 0, _, _ => none
  | N + 1, x5, x7 =>
  if (i_shl 1 x2) ≤ x7 then ((f_X1_whole x2 m0).bind fun z1 => (isO m0 x0 0).bind fun u2 => bn2 (f_X1_fraction x0 x5 z1 x3 m0) fun z3 m4 => some (z3, m4)) else ((isO m0 x0 0).bind fun u5 => (f_X1_partOf x0 x2 x7 m0).bind fun z6 => (isO m0 x0 0).bind fun u7 => (f_X1_saysBy x0 x1 x2 x7 m0).bind fun z8 => f_X1_mean_L33 x0 x1 x2 x3 m0 N (x5 + (z6 * (Int32.toInt64 z8))) (x7 + 1))
set_option maxHeartbeats 4000000 in
theorem w_X1_mean_L33 {E : fk_E} {l : Launch} {G : fk_G} {b0 n : Nat} {r : Int64} {mF : fk_M} (X : fk_X E l G b0 "FigureKnee" "mean" cX1_mean 8 7 197 0 0) (Y : fk_Y E (some .long) (some (tL r)) n mF 0 0) (x0 : Option Nat) (x1 : Int32) (x2 : Int32) (x3 : Int32) (m0 : fk_M) : ∀ (N : Nat) (x5 : Int64) (x7 : Int32), f_X1_mean_L33 x0 x1 x2 x3 m0 N x5 x7 = some (r, mF) → fk_W E 8 n m0 0 0 33 [(0, tR x0), (1, tI x1), (2, tI x2), (3, tI x3), (5, tL x5), (7, tI x7)] [] := by
  intro N
  induction N with
  | zero =>
    intro x5 x7 hf
    have hf : (none : Option (Int64 × fk_M)) = some _ := hf
    cases hf
  | succ N ih =>
    intro x5 x7 hf
    rw [f_X1_mean_L33] at hf
    refine fk_iload X 5 dX1_mean_33 rfl ?_
    refine fk_iconst (v := 1) X dX1_mean_35 rfl ?_
    refine fk_iload_n X 2 dX1_mean_36 rfl ?_
    refine fk_ishl X dX1_mean_37 ?_
    refine fk_icmp_ge' X 69 dX1_mean_38 rfl hf (fun hf => ?_) (fun hf => ?_)
    · refine fk_aload_n X 0 dX1_mean_69 rfl ?_
      refine fk_lload X 4 dX1_mean_70 rfl ?_
      refine fk_iload_n X 2 dX1_mean_72 rfl ?_
      obtain ⟨z1, hv, hf⟩ := bI hf
      refine fk_callS0J (rest := [tL x5, tR x0]) X (c_X1_whole hv) n_X1_whole q1373 q1374 q122 q1375 dX1_mean_73 rfl rfl rfl rfl rfl (Nat.le_refl _) (Nat.le_refl _) ?_
      refine fk_iload_n X 3 dX1_mean_76 rfl ?_
      obtain ⟨u2, hq, hf⟩ := bI hf
      obtain ⟨z3, m4, hv, hf⟩ := bn2_eq hf
      refine fk_callV0J (ci := 0) (rest := []) X hq rfl (c_X1_fraction hv) n_X1_fraction q1331 q1333 qs53 q122 q1334 rfl dX1_mean_77 rfl rfl rfl rfl rfl (Nat.le_refl _) (Nat.le_refl _) ?_
      cases hf
      exact fk_lreturn X Y dX1_mean_80
    · refine fk_lload X 4 dX1_mean_41 rfl ?_
      refine fk_aload_n X 0 dX1_mean_43 rfl ?_
      refine fk_iload_n X 2 dX1_mean_44 rfl ?_
      refine fk_iload X 5 dX1_mean_45 rfl ?_
      obtain ⟨u5, hq, hf⟩ := bI hf
      obtain ⟨z6, hv, hf⟩ := bI hf
      refine fk_callV0J (ci := 0) (rest := [tL x5]) X hq rfl (c_X1_partOf hv) n_X1_partOf q1369 q1371 qs57 q122 q1372 rfl dX1_mean_47 rfl rfl rfl rfl rfl (Nat.le_refl _) (Nat.le_refl _) ?_
      refine fk_aload_n X 0 dX1_mean_50 rfl ?_
      refine fk_iload_n X 1 dX1_mean_51 rfl ?_
      refine fk_iload_n X 2 dX1_mean_52 rfl ?_
      refine fk_iload X 5 dX1_mean_53 rfl ?_
      obtain ⟨u7, hq, hf⟩ := bI hf
      obtain ⟨z8, hv, hf⟩ := bI hf
      refine fk_callV0I (ci := 0) (rest := [tL z6, tL x5]) X hq rfl (c_X1_saysBy hv) n_X1_saysBy q1365 q1367 qs56 q122 q1368 rfl dX1_mean_55 rfl rfl rfl rfl rfl (Nat.le_refl _) (Nat.le_refl _) ?_
      refine fk_i2l X dX1_mean_58 ?_
      refine fk_lmul X dX1_mean_59 ?_
      refine fk_ladd X dX1_mean_60 ?_
      refine fk_lstore X [(5, tL (x5 + (z6 * (Int32.toInt64 z8)))), (0, tR x0), (1, tI x1), (2, tI x2), (3, tI x3), (7, tI x7)] dX1_mean_61 rfl rfl ?_
      refine fk_iinc X 5 [(7, tI (x7 + 1)), (5, tL (x5 + (z6 * (Int32.toInt64 z8)))), (0, tR x0), (1, tI x1), (2, tI x2), (3, tI x3)] dX1_mean_63 rfl rfl rfl rfl ?_
      refine fk_goto X 33 dX1_mean_66 rfl ?_
      exact fk_cut' (ih (x5 + (z6 * (Int32.toInt64 z8))) (x7 + 1)  hf) [2, 3, 4, 5, 1, 0] rfl
def f_X1_mean (a0 : Option Nat) (a1 : Int32) (a2 : Int32) (a3 : Int32) (m0 : fk_M) : Option (Int64 × fk_M) :=
  (isO m0 a0 0).bind fun u1 => (f_X1_isPair a0 a1 m0).bind fun z2 => (isO m0 a0 0).bind fun u3 => (f_X1_why a0 z2 a2 0 5 m0).bind fun z4 => if z4 ≤ 0 then (f_X1_mean_L33 a0 a1 a2 a3 m0 fk_fuel 0 0) else ((isO m0 a0 0).bind fun u5 => bn2 (f_X1_refused a0 z4 m0) fun z6 m7 => some ((Int32.toInt64 z6), m7))
set_option maxHeartbeats 4000000 in
theorem c_X1_mean {l : Launch} {G : fk_G} {b0 : Nat} {n : Nat} {a0 : Option Nat} {a1 : Int32} {a2 : Int32} {a3 : Int32} {m0 : fk_M} {r : Int64} {mF : fk_M} (hf : f_X1_mean a0 a1 a2 a3 m0 = some (r, mF)) : fk_Ct l G b0 yX1_mean cX1_mean 8 (some .long) 7 197 [tR a0, tI a1, tI a2, tI a3] n m0 (some (tL r)) n mF 0 0 := by
  refine fk_enter n_X1_mean.1 rfl ?_
  intro E X0 Y
  have X : fk_X E l G b0 "FigureKnee" "mean" cX1_mean 8 7 197 0 0 := X0
  show fk_W E 8 n m0 0 0 0 [(0, tR a0), (1, tI a1), (2, tI a2), (3, tI a3)] []
  unfold f_X1_mean at hf
  refine fk_aload_n X 0 dX1_mean_0 rfl ?_
  refine fk_aload_n X 0 dX1_mean_1 rfl ?_
  refine fk_iload_n X 1 dX1_mean_2 rfl ?_
  obtain ⟨u1, hq, hf⟩ := bI hf
  obtain ⟨z2, hv, hf⟩ := bI hf
  refine fk_callV0I (ci := 0) (rest := [tR a0]) X hq rfl (c_X1_isPair hv) n_X1_isPair q1017 q1019 qs26 q122 q1020 rfl dX1_mean_3 rfl rfl rfl rfl rfl (Nat.le_refl _) (Nat.le_refl _) ?_
  refine fk_iload_n X 2 dX1_mean_6 rfl ?_
  refine fk_iconst (v := 0) X dX1_mean_7 rfl ?_
  refine fk_iconst (v := 5) X dX1_mean_8 rfl ?_
  obtain ⟨u3, hq, hf⟩ := bI hf
  obtain ⟨z4, hv, hf⟩ := bI hf
  refine fk_callV0I (ci := 0) (rest := []) X hq rfl (c_X1_why hv) n_X1_why q1039 q1041 qs30 q122 q1042 rfl dX1_mean_9 rfl rfl rfl rfl rfl (Nat.le_refl _) (Nat.le_refl _) ?_
  refine fk_istore X [(4, tI z4), (0, tR a0), (1, tI a1), (2, tI a2), (3, tI a3)] dX1_mean_12 rfl rfl ?_
  refine fk_iload X 0 dX1_mean_14 rfl ?_
  refine fk_if_le' X 27 dX1_mean_16 rfl hf (fun hf => ?_) (fun hf => ?_)
  · refine fk_lconst (v := 0) X dX1_mean_27 rfl ?_
    refine fk_lstore X [(5, tL 0), (4, tI z4), (0, tR a0), (1, tI a1), (2, tI a2), (3, tI a3)] dX1_mean_28 rfl rfl ?_
    refine fk_iconst (v := 0) X dX1_mean_30 rfl ?_
    refine fk_istore X [(7, tI 0), (5, tL 0), (4, tI z4), (0, tR a0), (1, tI a1), (2, tI a2), (3, tI a3)] dX1_mean_31 rfl rfl ?_
    exact fk_cut' (w_X1_mean_L33 X Y a0 a1 a2 a3 m0 fk_fuel 0 0 hf) [3, 4, 5, 6, 1, 0] rfl
  · refine fk_aload_n X 1 dX1_mean_19 rfl ?_
    refine fk_iload X 0 dX1_mean_20 rfl ?_
    obtain ⟨u5, hq, hf⟩ := bI hf
    obtain ⟨z6, m7, hv, hf⟩ := bn2_eq hf
    refine fk_callV0I (ci := 0) (rest := []) X hq rfl (c_X1_refused hv) n_X1_refused q264 q266 qs0 q122 q267 rfl dX1_mean_22 rfl rfl rfl rfl rfl (Nat.le_refl _) (Nat.le_refl _) ?_
    refine fk_i2l X dX1_mean_25 ?_
    cases hf
    exact fk_lreturn X Y dX1_mean_26
/-! FigureKnee drawn (III)I -/
theorem n_X1_drawn : fk_N yX1_drawn 3 := ⟨by decide +kernel, by decide +kernel, by decide +kernel, by decide +kernel⟩
def f_X1_drawn_L58 (x0 : Option Nat) (x1 : Int32) (x3 : Int32) (m0 : fk_M) : Nat → Int32 → Int32 → Int32 → Option (Int32 × fk_M)
  | 0, _, _, _ => none
  | N + 1, x5, x6, x7 =>
  if x3 < x7 then ((isO m0 x0 0).bind fun u1 => bn2 (f_X1_well x0 x6 m0) fun z2 m3 => some (z2, m3)) else ((f_X1_drawOf x5 m0).bind fun z4 => (gR m0 x0 0 6).bind fun z5 => (gR m0 z5 13 2).bind fun z6 => (aI m0 z6 1 x1).bind fun z7 => (isO m0 x0 0).bind fun u8 => (f_X1_at x0 x1 m0).bind fun z9 => (gI m0 z9 6 4).bind fun z10 => (gR m0 x0 0 6).bind fun z11 => (gI m0 z11 13 4).bind fun z12 => (gR m0 x0 0 5).bind fun z13 => (gI m0 z13 4 1).bind fun z14 => (isO m0 x0 0).bind fun u15 => (f_X1_then x0 x1 x6 z7 z10 (z12 + x7) (if z14 ≤ (i_rem z4 100) then (0 : Int32) else 1) m0).bind fun z16 => f_X1_drawn_L58 x0 x1 x3 m0 N z4 z16 (x7 + 1))
set_option maxHeartbeats 4000000 in
theorem w_X1_drawn_L58 {E : fk_E} {l : Launch} {G : fk_G} {b0 n : Nat} {r : Int32} {mF : fk_M} (X : fk_X E l G b0 "FigureKnee" "drawn" cX1_drawn 8 6 172 0 0) (Y : fk_Y E (some .int) (some (tI r)) n mF 0 0) (x0 : Option Nat) (x1 : Int32) (x3 : Int32) (m0 : fk_M) : ∀ (N : Nat) (x5 : Int32) (x6 : Int32) (x7 : Int32), f_X1_drawn_L58 x0 x1 x3 m0 N x5 x6 x7 = some (r, mF) → fk_W E 8 n m0 0 0 58 [(0, tR x0), (1, tI x1), (3, tI x3), (5, tI x5), (6, tI x6), (7, tI x7)] [] := by
  intro N
  induction N with
  | zero =>
    intro x5 x6 x7 hf
    have hf : (none : Option (Int32 × fk_M)) = some _ := hf
    cases hf
  | succ N ih =>
    intro x5 x6 x7 hf
    rw [f_X1_drawn_L58] at hf
    refine fk_iload X 5 dX1_drawn_58 rfl ?_
    refine fk_iload_n X 2 dX1_drawn_60 rfl ?_
    refine fk_icmp_gt' X 133 dX1_drawn_61 rfl hf (fun hf => ?_) (fun hf => ?_)
    · refine fk_aload_n X 0 dX1_drawn_133 rfl ?_
      refine fk_iload X 4 dX1_drawn_134 rfl ?_
      obtain ⟨u1, hq, hf⟩ := bI hf
      obtain ⟨z2, m3, hv, hf⟩ := bn2_eq hf
      refine fk_callV0I (ci := 0) (rest := []) X hq rfl (c_X1_well hv) n_X1_well q1001 q1003 qs25 q122 q1004 rfl dX1_drawn_136 rfl rfl rfl rfl rfl (Nat.le_refl _) (Nat.le_refl _) ?_
      cases hf
      exact fk_ireturn X Y dX1_drawn_139 rfl
    · refine fk_iload X 3 dX1_drawn_64 rfl ?_
      obtain ⟨z4, hv, hf⟩ := bI hf
      refine fk_callS0I (rest := []) X (c_X1_drawOf hv) n_X1_drawOf q1351 q1352 q122 q1353 dX1_drawn_66 rfl rfl rfl rfl rfl (Nat.le_refl _) (Nat.le_refl _) ?_
      refine fk_istore X [(5, tI z4), (0, tR x0), (1, tI x1), (3, tI x3), (6, tI x6), (7, tI x7)] dX1_drawn_69 rfl rfl ?_
      refine fk_aload_n X 1 dX1_drawn_71 rfl ?_
      refine fk_iload_n X 2 dX1_drawn_72 rfl ?_
      refine fk_iload X 4 dX1_drawn_73 rfl ?_
      refine fk_aload_n X 1 dX1_drawn_75 rfl ?_
      refine fk_getR' X fd_0_6 q196 dX1_drawn_76 hf (fun z5 hf => ?_)
      refine fk_getR' X fd_13_2 q968 dX1_drawn_79 hf (fun z6 hf => ?_)
      refine fk_iload_n X 2 dX1_drawn_82 rfl ?_
      refine fk_baload' X dX1_drawn_83 hf (fun z7 hf => ?_)
      refine fk_aload_n X 1 dX1_drawn_84 rfl ?_
      refine fk_iload_n X 2 dX1_drawn_85 rfl ?_
      obtain ⟨u8, hq, hf⟩ := bI hf
      obtain ⟨z9, hv, hf⟩ := bI hf
      refine fk_callV0R (ci := 0) (rest := [tI z7, tI x6, tI x1, tR x0]) X hq rfl (c_X1_at hv) n_X1_at q1021 q1023 qs27 q122 q1024 rfl dX1_drawn_86 rfl rfl rfl rfl rfl (Nat.le_refl _) (Nat.le_refl _) ?_
      refine fk_getI' X fd_6_4 q753 dX1_drawn_89 hf (fun z10 hf => ?_)
      refine fk_aload_n X 1 dX1_drawn_92 rfl ?_
      refine fk_getR' X fd_0_6 q196 dX1_drawn_93 hf (fun z11 hf => ?_)
      refine fk_getI' X fd_13_4 q972 dX1_drawn_96 hf (fun z12 hf => ?_)
      refine fk_iload X 5 dX1_drawn_99 rfl ?_
      refine fk_iadd X dX1_drawn_101 ?_
      refine fk_iload X 0 dX1_drawn_102 rfl ?_
      refine fk_bipush (v := 100) X dX1_drawn_104 rfl ?_
      refine fk_irem X dX1_drawn_106 (by decide) ?_
      refine fk_aload_n X 1 dX1_drawn_107 rfl ?_
      refine fk_getR' X fd_0_5 q195 dX1_drawn_108 hf (fun z13 hf => ?_)
      refine fk_getI' X fd_4_1 q302 dX1_drawn_111 hf (fun z14 hf => ?_)
      have J1 : fk_W E 8 n m0 0 0 122 [(5, tI z4), (0, tR x0), (1, tI x1), (3, tI x3), (7, tI x7)] [tI (if z14 ≤ (i_rem z4 100) then (0 : Int32) else 1), tI (z12 + x7), tI z10, tI z7, tI x6, tI x1, tR x0] := by
        obtain ⟨u15, hq, hf⟩ := bI hf
        obtain ⟨z16, hv, hf⟩ := bI hf
        refine fk_callV0I (ci := 0) (rest := []) X hq rfl (c_X1_then hv) n_X1_then q1051 q1053 qs33 q122 q1054 rfl dX1_drawn_122 rfl rfl rfl rfl rfl (Nat.le_refl _) (Nat.le_refl _) ?_
        refine fk_istore X [(6, tI z16), (5, tI z4), (0, tR x0), (1, tI x1), (3, tI x3), (7, tI x7)] dX1_drawn_125 rfl rfl ?_
        refine fk_iinc X 5 [(7, tI (x7 + 1)), (6, tI z16), (5, tI z4), (0, tR x0), (1, tI x1), (3, tI x3)] dX1_drawn_127 rfl rfl rfl rfl ?_
        refine fk_goto X 58 dX1_drawn_130 rfl ?_
        exact fk_cut' (ih z4 z16 (x7 + 1)  hf) [3, 4, 5, 2, 1, 0] rfl
      refine fk_icmp_ge X 121 dX1_drawn_114 rfl (fun hc2 => ?_) (fun hc2 => ?_)
      · refine fk_iconst (v := 0) X dX1_drawn_121 rfl ?_
        simp only [if_pos hc2] at J1
        exact fk_cut' J1 [0, 1, 2, 3, 5] rfl
      · refine fk_iconst (v := 1) X dX1_drawn_117 rfl ?_
        refine fk_goto X 122 dX1_drawn_118 rfl ?_
        simp only [if_neg hc2] at J1
        exact fk_cut' J1 [0, 1, 2, 3, 5] rfl
def f_X1_drawn_J29 (x0 : Option Nat) (x1 : Int32) (x2 : Int32) (x3 : Int32) (x4 : Int32) (m0 : fk_M) : Option (Int32 × fk_M) :=
  if x4 ≤ 0 then ((gR m0 x0 0 6).bind fun z1 => (gR m0 z1 13 1).bind fun z2 => (aI m0 z2 1 x1).bind fun z3 => f_X1_drawn_L58 x0 x1 x3 m0 fk_fuel x2 z3 1) else ((isO m0 x0 0).bind fun u4 => bn2 (f_X1_refused x0 x4 m0) fun z5 m6 => some (z5, m6))
set_option maxHeartbeats 4000000 in
theorem w_X1_drawn_J29 {E : fk_E} {l : Launch} {G : fk_G} {b0 n : Nat} {r : Int32} {mF : fk_M} (X : fk_X E l G b0 "FigureKnee" "drawn" cX1_drawn 8 6 172 0 0) (Y : fk_Y E (some .int) (some (tI r)) n mF 0 0) (x0 : Option Nat) (x1 : Int32) (x2 : Int32) (x3 : Int32) (x4 : Int32)  (m0 : fk_M) (hf : f_X1_drawn_J29 x0 x1 x2 x3 x4 m0 = some (r, mF)) : fk_W E 8 n m0 0 0 29 [(0, tR x0), (1, tI x1), (2, tI x2), (3, tI x3), (4, tI x4)] [] := by
  unfold f_X1_drawn_J29 at hf
  refine fk_iload X 4 dX1_drawn_29 rfl ?_
  refine fk_if_le' X 41 dX1_drawn_31 rfl hf (fun hf => ?_) (fun hf => ?_)
  · refine fk_iload_n X 2 dX1_drawn_41 rfl ?_
    refine fk_istore X [(5, tI x2), (0, tR x0), (1, tI x1), (2, tI x2), (3, tI x3), (4, tI x4)] dX1_drawn_42 rfl rfl ?_
    refine fk_aload_n X 1 dX1_drawn_44 rfl ?_
    refine fk_getR' X fd_0_6 q196 dX1_drawn_45 hf (fun z1 hf => ?_)
    refine fk_getR' X fd_13_1 q966 dX1_drawn_48 hf (fun z2 hf => ?_)
    refine fk_iload_n X 2 dX1_drawn_51 rfl ?_
    refine fk_baload' X dX1_drawn_52 hf (fun z3 hf => ?_)
    refine fk_istore X [(6, tI z3), (5, tI x2), (0, tR x0), (1, tI x1), (2, tI x2), (3, tI x3), (4, tI x4)] dX1_drawn_53 rfl rfl ?_
    refine fk_iconst (v := 1) X dX1_drawn_55 rfl ?_
    refine fk_istore X [(7, tI 1), (6, tI z3), (5, tI x2), (0, tR x0), (1, tI x1), (2, tI x2), (3, tI x3), (4, tI x4)] dX1_drawn_56 rfl rfl ?_
    exact fk_cut' (w_X1_drawn_L58 X Y x0 x1 x3 m0 fk_fuel x2 z3 1 hf) [3, 4, 6, 2, 1, 0] rfl
  · refine fk_aload_n X 0 dX1_drawn_34 rfl ?_
    refine fk_iload X 4 dX1_drawn_35 rfl ?_
    obtain ⟨u4, hq, hf⟩ := bI hf
    obtain ⟨z5, m6, hv, hf⟩ := bn2_eq hf
    refine fk_callV0I (ci := 0) (rest := []) X hq rfl (c_X1_refused hv) n_X1_refused q264 q266 qs0 q122 q267 rfl dX1_drawn_37 rfl rfl rfl rfl rfl (Nat.le_refl _) (Nat.le_refl _) ?_
    cases hf
    exact fk_ireturn X Y dX1_drawn_40 rfl
def f_X1_drawn (a0 : Option Nat) (a1 : Int32) (a2 : Int32) (a3 : Int32) (m0 : fk_M) : Option (Int32 × fk_M) :=
  (isO m0 a0 0).bind fun u1 => (f_X1_isPair a0 a1 m0).bind fun z2 => (isO m0 a0 0).bind fun u3 => (f_X1_why a0 z2 a2 0 65536 m0).bind fun z4 => if z4 = 0 then ((isO m0 a0 0).bind fun u5 => (f_X1_whyAhead a0 1 a3 m0).bind fun z6 => f_X1_drawn_J29 a0 a1 a2 a3 z6 m0) else (f_X1_drawn_J29 a0 a1 a2 a3 z4 m0)
set_option maxHeartbeats 4000000 in
theorem c_X1_drawn {l : Launch} {G : fk_G} {b0 : Nat} {n : Nat} {a0 : Option Nat} {a1 : Int32} {a2 : Int32} {a3 : Int32} {m0 : fk_M} {r : Int32} {mF : fk_M} (hf : f_X1_drawn a0 a1 a2 a3 m0 = some (r, mF)) : fk_Ct l G b0 yX1_drawn cX1_drawn 8 (some .int) 6 172 [tR a0, tI a1, tI a2, tI a3] n m0 (some (tI r)) n mF 0 0 := by
  refine fk_enter n_X1_drawn.1 rfl ?_
  intro E X0 Y
  have X : fk_X E l G b0 "FigureKnee" "drawn" cX1_drawn 8 6 172 0 0 := X0
  show fk_W E 8 n m0 0 0 0 [(0, tR a0), (1, tI a1), (2, tI a2), (3, tI a3)] []
  unfold f_X1_drawn at hf
  refine fk_aload_n X 0 dX1_drawn_0 rfl ?_
  refine fk_aload_n X 0 dX1_drawn_1 rfl ?_
  refine fk_iload_n X 1 dX1_drawn_2 rfl ?_
  obtain ⟨u1, hq, hf⟩ := bI hf
  obtain ⟨z2, hv, hf⟩ := bI hf
  refine fk_callV0I (ci := 0) (rest := [tR a0]) X hq rfl (c_X1_isPair hv) n_X1_isPair q1017 q1019 qs26 q122 q1020 rfl dX1_drawn_3 rfl rfl rfl rfl rfl (Nat.le_refl _) (Nat.le_refl _) ?_
  refine fk_iload_n X 2 dX1_drawn_6 rfl ?_
  refine fk_iconst (v := 0) X dX1_drawn_7 rfl ?_
  refine fk_ldcw X q1346 dX1_drawn_8 ?_
  obtain ⟨u3, hq, hf⟩ := bI hf
  obtain ⟨z4, hv, hf⟩ := bI hf
  refine fk_callV0I (ci := 0) (rest := []) X hq rfl (c_X1_why hv) n_X1_why q1039 q1041 qs30 q122 q1042 rfl dX1_drawn_11 rfl rfl rfl rfl rfl (Nat.le_refl _) (Nat.le_refl _) ?_
  refine fk_istore X [(4, tI z4), (0, tR a0), (1, tI a1), (2, tI a2), (3, tI a3)] dX1_drawn_14 rfl rfl ?_
  refine fk_iload X 0 dX1_drawn_16 rfl ?_
  refine fk_if_ne' X 29 dX1_drawn_18 rfl hf (fun hf => ?_) (fun hf => ?_)
  · exact fk_cut' (w_X1_drawn_J29 X Y a0 a1 a2 a3 z4 m0 hf) [1, 2, 3, 4, 0] rfl
  · refine fk_aload_n X 1 dX1_drawn_21 rfl ?_
    refine fk_iconst (v := 1) X dX1_drawn_22 rfl ?_
    refine fk_iload_n X 4 dX1_drawn_23 rfl ?_
    obtain ⟨u5, hq, hf⟩ := bI hf
    obtain ⟨z6, hv, hf⟩ := bI hf
    refine fk_callV0I (ci := 0) (rest := []) X hq rfl (c_X1_whyAhead hv) n_X1_whyAhead q1035 q1037 qs29 q122 q1038 rfl dX1_drawn_24 rfl rfl rfl rfl rfl (Nat.le_refl _) (Nat.le_refl _) ?_
    refine fk_istore X [(4, tI z6), (0, tR a0), (1, tI a1), (2, tI a2), (3, tI a3)] dX1_drawn_27 rfl rfl ?_
    exact fk_cut' (w_X1_drawn_J29 X Y a0 a1 a2 a3 z6 m0 hf) [1, 2, 3, 4, 0] rfl
/-! FigureKnee remembers ()V -/
theorem n_X1_remembers : fk_N yX1_remembers 0 := ⟨by decide +kernel, by decide +kernel, by decide +kernel, by decide +kernel⟩
def f_X1_remembers_J21 (g : Nat → Nat) (x0 : Option Nat) (n1 k1 : Nat) (m0 : fk_M) : Option (Nat × Nat × fk_M) :=
  (gR m0 x0 0 7).bind fun z1 => (gR m0 x0 0 6).bind fun z2 => (isO m0 z1 14).bind fun u3 => bn4 (f_J2_add g z1 z2 n1 k1 m0) fun z4 n6 k7 m5 => (gR m5 x0 0 6).bind fun z8 => (isO m5 z8 13).bind fun u9 => bn4 (f_X15_copy z8 n6 k7 m5) fun z10 n12 k13 m11 => (pV m11 x0 0 6 (tR z10)).bind fun m14 => some (n12, k13, m14)
theorem mo_X1_remembers_J21 (g : Nat → Nat) (x0 : Option Nat) (n1 k1 : Nat) (m0 : fk_M) : Mo3 n1 k1 (f_X1_remembers_J21 g x0 n1 k1 m0) := by
  unfold f_X1_remembers_J21
  exact Mo3.bind (fun z1 => Mo3.bind (fun z2 => Mo3.bind (fun u3 => Mo3.bn4 (mo_J2_add g z1 z2 n1 k1 m0) (fun z4 n6 k7 m5 => Mo3.bind (fun z8 => Mo3.bind (fun u9 => Mo3.bn4 (mo_X15_copy z8 n6 k7 m5) (fun z10 n12 k13 m11 => Mo3.bind (fun m14 => Mo3.ok (by omega) (by omega)))))))))
set_option maxHeartbeats 4000000 in
theorem w_X1_remembers_J21 {E : fk_E} {l : Launch} {G : fk_G} {b0 n0 k0 nF kF : Nat} {mF : fk_M} (X : fk_X E l G b0 "FigureKnee" "remembers" cX1_remembers 1 7 191 (nF - n0) (kF - k0)) (Y : fk_Y E none none nF mF (nF - n0) (kF - k0)) (x0 : Option Nat)  (n1 k1 : Nat) (hn1 : n0 ≤ n1) (hk1 : k0 ≤ k1) (m0 : fk_M) (hf : f_X1_remembers_J21 G.2.2 x0 n1 k1 m0 = some (nF, kF, mF)) : fk_W E 1 n1 m0 (n1 - n0) (k1 - k0) 21 [(0, tR x0)] [] := by
  unfold f_X1_remembers_J21 at hf
  refine fk_aload_n X 0 dX1_remembers_21 rfl ?_
  refine fk_getR' X fd_0_7 q197 dX1_remembers_22 hf (fun z1 hf => ?_)
  refine fk_aload_n X 0 dX1_remembers_25 rfl ?_
  refine fk_getR' X fd_0_6 q196 dX1_remembers_26 hf (fun z2 hf => ?_)
  obtain ⟨u3, hq, hf⟩ := bI hf
  obtain ⟨z4, n6, k7, m5, hv, hf⟩ := bn4_eq hf
  have hmc := mo_J2_add G.2.2 z1 z2 n1 k1 m0 _ _ _ _ hv
  have hm : n6 ≤ nF ∧ k7 ≤ kF := Mo3.use hf (Mo3.bind (fun z8 => Mo3.bind (fun u9 => Mo3.bn4 (mo_X15_copy z8 n6 k7 m5) (fun z10 n12 k13 m11 => Mo3.bind (fun m14 => Mo3.ok (by omega) (by omega))))))
  refine fk_callV1I (ci := 14) (rest := []) (cs2 := n6 - n0) (sl2 := k7 - k0) X hq rfl (c_J2_add hv) n_J2_add q1402 q821 q822 q125 q823 rfl dX1_remembers_29 rfl rfl rfl rfl rfl (by omega) (by omega) (by omega) (by omega) ?_
  refine fk_pop X dX1_remembers_32 rfl ?_
  refine fk_aload_n X 0 dX1_remembers_33 rfl ?_
  refine fk_aload_n X 0 dX1_remembers_34 rfl ?_
  refine fk_getR' X fd_0_6 q196 dX1_remembers_35 hf (fun z8 hf => ?_)
  obtain ⟨u9, hq, hf⟩ := bI hf
  obtain ⟨z10, n12, k13, m11, hv, hf⟩ := bn4_eq hf
  have hmc := mo_X15_copy z8 n6 k7 m5 _ _ _ _ hv
  have hm : n12 ≤ nF ∧ k13 ≤ kF := Mo3.use hf (Mo3.bind (fun m14 => Mo3.ok (by omega) (by omega)))
  refine fk_callV1R (ci := 13) (rest := [tR x0]) (cs2 := n12 - n0) (sl2 := k13 - k0) X hq rfl (c_X15_copy hv) n_X15_copy q1403 q1404 q1405 q150 q1406 rfl dX1_remembers_38 rfl rfl rfl rfl rfl (by omega) (by omega) (by omega) (by omega) ?_
  refine fk_putR' X fd_0_6 q196 dX1_remembers_41 (fit_R _) hf (fun m14 hf => ?_)
  cases hf
  exact fk_return X Y dX1_remembers_44
def f_X1_remembers (g : Nat → Nat) (a0 : Option Nat) (n1 k1 : Nat) (m0 : fk_M) : Option (Nat × Nat × fk_M) :=
  (gR m0 a0 0 7).bind fun z1 => (isO m0 z1 14).bind fun u2 => (f_J2_size z1 m0).bind fun z3 => if z3 = 16 then ((gR m0 a0 0 7).bind fun z4 => (isO m0 z4 14).bind fun u5 => bn2 (f_J2_remove z4 0 m0) fun z6 m7 => f_X1_remembers_J21 g a0 n1 k1 m7) else (f_X1_remembers_J21 g a0 n1 k1 m0)
theorem mo_X1_remembers (g : Nat → Nat) (a0 : Option Nat) (n1 k1 : Nat) (m0 : fk_M) : Mo3 n1 k1 (f_X1_remembers g a0 n1 k1 m0) := by
  unfold f_X1_remembers
  exact Mo3.bind (fun z1 => Mo3.bind (fun u2 => Mo3.bind (fun z3 => Mo3.ite (Mo3.bind (fun z4 => Mo3.bind (fun u5 => Mo3.bn2 (fun z6 m7 => (mo_X1_remembers_J21 g a0 n1 k1 m7))))) ((mo_X1_remembers_J21 g a0 n1 k1 m0)))))
set_option maxHeartbeats 4000000 in
theorem c_X1_remembers {l : Launch} {G : fk_G} {b0 : Nat} {n1 k1 nF kF : Nat} {a0 : Option Nat} {m0 : fk_M} {mF : fk_M} (hf : f_X1_remembers G.2.2 a0 n1 k1 m0 = some (nF, kF, mF)) : fk_Ct l G b0 yX1_remembers cX1_remembers 1 none 7 191 [tR a0] n1 m0 none nF mF (nF - n1) (kF - k1) := by
  refine fk_enter n_X1_remembers.1 rfl ?_
  intro E X0 Y
  have X : fk_X E l G b0 "FigureKnee" "remembers" cX1_remembers 1 7 191 (nF - n1) (kF - k1) := X0
  show fk_W E 1 n1 m0 0 0 0 [(0, tR a0)] []
  refine fk_widen (cs2 := n1 - n1) (sl2 := k1 - k1) (Nat.zero_le _) (Nat.zero_le _) ?_
  unfold f_X1_remembers at hf
  have h01 : n1 ≤ n1 := Nat.le_refl _
  have h02 : k1 ≤ k1 := Nat.le_refl _
  refine fk_aload_n X 0 dX1_remembers_0 rfl ?_
  refine fk_getR' X fd_0_7 q197 dX1_remembers_1 hf (fun z1 hf => ?_)
  obtain ⟨u2, hq, hf⟩ := bI hf
  obtain ⟨z3, hv, hf⟩ := bI hf
  have hm : n1 ≤ nF ∧ k1 ≤ kF := Mo3.use hf (Mo3.ite (Mo3.bind (fun z4 => Mo3.bind (fun u5 => Mo3.bn2 (fun z6 m7 => (mo_X1_remembers_J21 G.2.2 a0 n1 k1 m7))))) ((mo_X1_remembers_J21 G.2.2 a0 n1 k1 m0)))
  refine fk_callV0I (ci := 14) (rest := []) X hq rfl (c_J2_size hv) n_J2_size q1000 q699 q700 q125 q701 rfl dX1_remembers_4 rfl rfl rfl rfl rfl (by omega) (by omega) ?_
  refine fk_bipush (v := 16) X dX1_remembers_7 rfl ?_
  refine fk_icmp_ne' X 21 dX1_remembers_9 rfl hf (fun hf => ?_) (fun hf => ?_)
  · have hn : n1 ≤ n1 := by omega
    have hk : k1 ≤ k1 := by omega
    exact fk_cut' (w_X1_remembers_J21 X Y a0 n1 k1 hn hk m0 hf) [0] rfl
  · refine fk_aload_n X 0 dX1_remembers_12 rfl ?_
    refine fk_getR' X fd_0_7 q197 dX1_remembers_13 hf (fun z4 hf => ?_)
    refine fk_iconst (v := 0) X dX1_remembers_16 rfl ?_
    obtain ⟨u5, hq, hf⟩ := bI hf
    obtain ⟨z6, m7, hv, hf⟩ := bn2_eq hf
    have hm : n1 ≤ nF ∧ k1 ≤ kF := Mo3.use hf ((mo_X1_remembers_J21 G.2.2 a0 n1 k1 m7))
    refine fk_callV0R (ci := 14) (rest := []) X hq rfl (c_J2_remove hv) n_J2_remove q1393 q1394 q1395 q125 q1396 rfl dX1_remembers_17 rfl rfl rfl rfl rfl (by omega) (by omega) ?_
    refine fk_pop X dX1_remembers_20 rfl ?_
    have hn : n1 ≤ n1 := by omega
    have hk : k1 ≤ k1 := by omega
    exact fk_cut' (w_X1_remembers_J21 X Y a0 n1 k1 hn hk m7 hf) [0] rfl
/-! FigureKnee season ()I -/
theorem n_X1_season : fk_N yX1_season 0 := ⟨by decide +kernel, by decide +kernel, by decide +kernel, by decide +kernel⟩
def f_X1_season_L38 (g : Nat → Nat) (x0 : Option Nat) (n1 k1 : Nat) : Nat → Int32 → fk_M → Option (Int32 × Nat × Nat × fk_M)
  | 0, _, _ => none
  | N + 1, x1, m0 =>
  (isO m0 x0 0).bind fun u1 => (f_X1_pairs x0 m0).bind fun z2 => if z2 ≤ x1 then ((gR m0 x0 0 6).bind fun z3 => (gI m0 z3 13 4).bind fun z4 => (pV m0 z3 13 4 (tI (z4 + 1))).bind fun m5 => (isO m5 x0 0).bind fun u6 => bn2 (f_X1_mastersIn x0 0 m5) fun z7 m8 => (isO m8 x0 0).bind fun u9 => bn2 (f_X1_well x0 z7 m8) fun z10 m11 => some (z10, n1, k1, m11)) else ((isO m0 x0 0).bind fun u12 => (f_X1_tellsOn x0 x1 1 m0).bind fun m13 => (gR m13 x0 0 6).bind fun z14 => (gR m13 z14 13 1).bind fun z15 => (gR m13 x0 0 9).bind fun z16 => (aI m13 z16 2 1).bind fun z17 => (sI m13 z15 1 x1 (i_b z17)).bind fun m18 => f_X1_season_L38 g x0 n1 k1 N (x1 + 1) m18)
theorem mo_X1_season_L38 (g : Nat → Nat) (x0 : Option Nat) (n1 k1 : Nat) : ∀ (N : Nat) (x1 : Int32) (m0 : fk_M), Mo4 n1 k1 (f_X1_season_L38 g x0 n1 k1 N x1 m0) := by
  intro N
  induction N with
  | zero => intro x1 m0; exact Mo4.no
  | succ N ih =>
    intro x1 m0
    rw [f_X1_season_L38]
    exact Mo4.bind (fun u1 => Mo4.bind (fun z2 => Mo4.ite (Mo4.bind (fun z3 => Mo4.bind (fun z4 => Mo4.bind (fun m5 => Mo4.bind (fun u6 => Mo4.bn2 (fun z7 m8 => Mo4.bind (fun u9 => Mo4.bn2 (fun z10 m11 => Mo4.ok (by omega) (by omega))))))))) (Mo4.bind (fun u12 => Mo4.bind (fun m13 => Mo4.bind (fun z14 => Mo4.bind (fun z15 => Mo4.bind (fun z16 => Mo4.bind (fun z17 => Mo4.bind (fun m18 => (ih (x1 + 1) m18)))))))))))
set_option maxHeartbeats 4000000 in
theorem w_X1_season_L38 {E : fk_E} {l : Launch} {G : fk_G} {b0 n0 k0 nF kF : Nat} {r : Int32} {mF : fk_M} (X : fk_X E l G b0 "FigureKnee" "season" cX1_season 2 9 242 (nF - n0) (kF - k0)) (Y : fk_Y E (some .int) (some (tI r)) nF mF (nF - n0) (kF - k0)) (x0 : Option Nat) (n1 k1 : Nat) (hn1 : n0 ≤ n1) (hk1 : k0 ≤ k1) : ∀ (N : Nat) (x1 : Int32) (m0 : fk_M), f_X1_season_L38 G.2.2 x0 n1 k1 N x1 m0 = some (r, nF, kF, mF) → fk_W E 2 n1 m0 (n1 - n0) (k1 - k0) 38 [(0, tR x0), (1, tI x1)] [] := by
  intro N
  induction N with
  | zero =>
    intro x1 m0 hf
    have hf : (none : Option (Int32 × Nat × Nat × fk_M)) = some _ := hf
    cases hf
  | succ N ih =>
    intro x1 m0 hf
    rw [f_X1_season_L38] at hf
    refine fk_iload_n X 1 dX1_season_38 rfl ?_
    refine fk_aload_n X 0 dX1_season_39 rfl ?_
    obtain ⟨u1, hq, hf⟩ := bI hf
    obtain ⟨z2, hv, hf⟩ := bI hf
    have hm : n1 ≤ nF ∧ k1 ≤ kF := Mo4.use hf (Mo4.ite (Mo4.bind (fun z3 => Mo4.bind (fun z4 => Mo4.bind (fun m5 => Mo4.bind (fun u6 => Mo4.bn2 (fun z7 m8 => Mo4.bind (fun u9 => Mo4.bn2 (fun z10 m11 => Mo4.ok (by omega) (by omega))))))))) (Mo4.bind (fun u12 => Mo4.bind (fun m13 => Mo4.bind (fun z14 => Mo4.bind (fun z15 => Mo4.bind (fun z16 => Mo4.bind (fun z17 => Mo4.bind (fun m18 => ((mo_X1_season_L38 G.2.2 x0 n1 k1 N) (x1 + 1) m18))))))))))
    refine fk_callV0I (ci := 0) (rest := [tI x1]) X hq rfl (c_X1_pairs hv) n_X1_pairs q996 q998 qs24 q122 q999 rfl dX1_season_40 rfl rfl rfl rfl rfl (by omega) (by omega) ?_
    refine fk_icmp_ge' X 74 dX1_season_43 rfl hf (fun hf => ?_) (fun hf => ?_)
    · refine fk_aload_n X 0 dX1_season_74 rfl ?_
      refine fk_getR' X fd_0_6 q196 dX1_season_75 hf (fun z3 hf => ?_)
      refine fk_dup X dX1_season_78 rfl ?_
      refine fk_getI' X fd_13_4 q972 dX1_season_79 hf (fun z4 hf => ?_)
      refine fk_iconst (v := 1) X dX1_season_82 rfl ?_
      refine fk_iadd X dX1_season_83 ?_
      refine fk_putI' X fd_13_4 q972 dX1_season_84 (fit_I _) hf (fun m5 hf => ?_)
      refine fk_aload_n X 0 dX1_season_87 rfl ?_
      refine fk_aload_n X 0 dX1_season_88 rfl ?_
      refine fk_iconst (v := 0) X dX1_season_89 rfl ?_
      obtain ⟨u6, hq, hf⟩ := bI hf
      obtain ⟨z7, m8, hv, hf⟩ := bn2_eq hf
      have hm : n1 ≤ nF ∧ k1 ≤ kF := Mo4.use hf (Mo4.bind (fun u9 => Mo4.bn2 (fun z10 m11 => Mo4.ok (by omega) (by omega))))
      refine fk_callV0I (ci := 0) (rest := [tR x0]) X hq rfl (c_X1_mastersIn hv) n_X1_mastersIn q1165 q1167 qs38 q122 q1168 rfl dX1_season_90 rfl rfl rfl rfl rfl (by omega) (by omega) ?_
      obtain ⟨u9, hq, hf⟩ := bI hf
      obtain ⟨z10, m11, hv, hf⟩ := bn2_eq hf
      have hm : n1 ≤ nF ∧ k1 ≤ kF := Mo4.use hf (Mo4.ok (by omega) (by omega))
      refine fk_callV0I (ci := 0) (rest := []) X hq rfl (c_X1_well hv) n_X1_well q1001 q1003 qs25 q122 q1004 rfl dX1_season_93 rfl rfl rfl rfl rfl (by omega) (by omega) ?_
      cases hf
      exact fk_ireturn X Y dX1_season_96 rfl
    · refine fk_aload_n X 0 dX1_season_46 rfl ?_
      refine fk_iload_n X 1 dX1_season_47 rfl ?_
      refine fk_iconst (v := 1) X dX1_season_48 rfl ?_
      obtain ⟨u12, hq, hf⟩ := bI hf
      obtain ⟨m13, hv, hf⟩ := bI hf
      have hm : n1 ≤ nF ∧ k1 ≤ kF := Mo4.use hf (Mo4.bind (fun z14 => Mo4.bind (fun z15 => Mo4.bind (fun z16 => Mo4.bind (fun z17 => Mo4.bind (fun m18 => ((mo_X1_season_L38 G.2.2 x0 n1 k1 N) (x1 + 1) m18)))))))
      refine fk_callV0V (ci := 0) (rest := []) X hq rfl (c_X1_tellsOn hv) n_X1_tellsOn q1043 q1045 qs31 q122 q1046 rfl dX1_season_49 rfl rfl rfl rfl rfl (by omega) (by omega) ?_
      refine fk_aload_n X 0 dX1_season_52 rfl ?_
      refine fk_getR' X fd_0_6 q196 dX1_season_53 hf (fun z14 hf => ?_)
      refine fk_getR' X fd_13_1 q966 dX1_season_56 hf (fun z15 hf => ?_)
      refine fk_iload_n X 1 dX1_season_59 rfl ?_
      refine fk_aload_n X 0 dX1_season_60 rfl ?_
      refine fk_getR' X fd_0_9 q199 dX1_season_61 hf (fun z16 hf => ?_)
      refine fk_iconst (v := 1) X dX1_season_64 rfl ?_
      refine fk_saload' X dX1_season_65 hf (fun z17 hf => ?_)
      refine fk_i2b X dX1_season_66 ?_
      refine fk_bastore' X dX1_season_67 hf (fun m18 hf => ?_)
      refine fk_iinc X 1 [(1, tI (x1 + 1)), (0, tR x0)] dX1_season_68 rfl rfl rfl rfl ?_
      refine fk_goto X 38 dX1_season_71 rfl ?_
      exact fk_cut' (ih (x1 + 1) m18  hf) [1, 0] rfl
def f_X1_season (g : Nat → Nat) (a0 : Option Nat) (n1 k1 : Nat) (m0 : fk_M) : Option (Int32 × Nat × Nat × fk_M) :=
  (gR m0 a0 0 5).bind fun z1 => if z1 = none then ((isO m0 a0 0).bind fun u2 => bn2 (f_X1_refused a0 1 m0) fun z3 m4 => some (z3, n1, k1, m4)) else ((gR m0 a0 0 6).bind fun z5 => (gI m0 z5 13 4).bind fun z6 => if z6 = 999 then ((isO m0 a0 0).bind fun u7 => bn2 (f_X1_refused a0 3 m0) fun z8 m9 => some (z8, n1, k1, m9)) else ((isO m0 a0 0).bind fun u10 => bn3 (f_X1_remembers g a0 n1 k1 m0) fun n12 k13 m11 => f_X1_season_L38 g a0 n12 k13 fk_fuel 0 m11))
theorem mo_X1_season (g : Nat → Nat) (a0 : Option Nat) (n1 k1 : Nat) (m0 : fk_M) : Mo4 n1 k1 (f_X1_season g a0 n1 k1 m0) := by
  unfold f_X1_season
  exact Mo4.bind (fun z1 => Mo4.ite (Mo4.bind (fun u2 => Mo4.bn2 (fun z3 m4 => Mo4.ok (by omega) (by omega)))) (Mo4.bind (fun z5 => Mo4.bind (fun z6 => Mo4.ite (Mo4.bind (fun u7 => Mo4.bn2 (fun z8 m9 => Mo4.ok (by omega) (by omega)))) (Mo4.bind (fun u10 => Mo4.bn3 (mo_X1_remembers g a0 n1 k1 m0) (fun n12 k13 m11 => (mo_X1_season_L38 g a0 n12 k13 fk_fuel 0 m11))))))))
set_option maxHeartbeats 4000000 in
theorem c_X1_season {l : Launch} {G : fk_G} {b0 : Nat} {n1 k1 nF kF : Nat} {a0 : Option Nat} {m0 : fk_M} {r : Int32} {mF : fk_M} (hf : f_X1_season G.2.2 a0 n1 k1 m0 = some (r, nF, kF, mF)) : fk_Ct l G b0 yX1_season cX1_season 2 (some .int) 9 242 [tR a0] n1 m0 (some (tI r)) nF mF (nF - n1) (kF - k1) := by
  refine fk_enter n_X1_season.1 rfl ?_
  intro E X0 Y
  have X : fk_X E l G b0 "FigureKnee" "season" cX1_season 2 9 242 (nF - n1) (kF - k1) := X0
  show fk_W E 2 n1 m0 0 0 0 [(0, tR a0)] []
  refine fk_widen (cs2 := n1 - n1) (sl2 := k1 - k1) (Nat.zero_le _) (Nat.zero_le _) ?_
  unfold f_X1_season at hf
  have h01 : n1 ≤ n1 := Nat.le_refl _
  have h02 : k1 ≤ k1 := Nat.le_refl _
  refine fk_aload_n X 0 dX1_season_0 rfl ?_
  refine fk_getR' X fd_0_5 q195 dX1_season_1 hf (fun z1 hf => ?_)
  refine fk_ifnonnull' X 13 dX1_season_4 rfl hf (fun hf => ?_) (fun hf => ?_)
  · refine fk_aload_n X 0 dX1_season_13 rfl ?_
    refine fk_getR' X fd_0_6 q196 dX1_season_14 hf (fun z5 hf => ?_)
    refine fk_getI' X fd_13_4 q972 dX1_season_17 hf (fun z6 hf => ?_)
    refine fk_sipush (v := 999) X dX1_season_20 rfl ?_
    refine fk_icmp_ne' X 32 dX1_season_23 rfl hf (fun hf => ?_) (fun hf => ?_)
    · refine fk_aload_n X 0 dX1_season_32 rfl ?_
      obtain ⟨u10, hq, hf⟩ := bI hf
      obtain ⟨n12, k13, m11, hv, hf⟩ := bn3_eq hf
      have hmc := mo_X1_remembers G.2.2 a0 n1 k1 m0 _ _ _ hv
      have hm : n12 ≤ nF ∧ k13 ≤ kF := Mo4.use hf ((mo_X1_season_L38 G.2.2 a0 n12 k13 fk_fuel 0 m11))
      refine fk_callV1V (ci := 0) (rest := []) (cs2 := n12 - n1) (sl2 := k13 - k1) X hq rfl (c_X1_remembers hv) n_X1_remembers q1389 q1391 qs58 q122 q1392 rfl dX1_season_33 rfl rfl rfl rfl rfl (by omega) (by omega) (by omega) (by omega) ?_
      refine fk_iconst (v := 0) X dX1_season_36 rfl ?_
      refine fk_istore_n X [(1, tI 0), (0, tR a0)] dX1_season_37 rfl rfl ?_
      have hn : n1 ≤ n12 := by omega
      have hk : k1 ≤ k13 := by omega
      exact fk_cut' (w_X1_season_L38 X Y a0 n12 k13 hn hk fk_fuel 0 m11 hf) [1, 0] rfl
    · refine fk_aload_n X 0 dX1_season_26 rfl ?_
      refine fk_iconst (v := 3) X dX1_season_27 rfl ?_
      obtain ⟨u7, hq, hf⟩ := bI hf
      obtain ⟨z8, m9, hv, hf⟩ := bn2_eq hf
      have hm : n1 ≤ nF ∧ k1 ≤ kF := Mo4.use hf (Mo4.ok (by omega) (by omega))
      refine fk_callV0I (ci := 0) (rest := []) X hq rfl (c_X1_refused hv) n_X1_refused q264 q266 qs0 q122 q267 rfl dX1_season_28 rfl rfl rfl rfl rfl (by omega) (by omega) ?_
      cases hf
      exact fk_ireturn X Y dX1_season_31 rfl
  · refine fk_aload_n X 0 dX1_season_7 rfl ?_
    refine fk_iconst (v := 1) X dX1_season_8 rfl ?_
    obtain ⟨u2, hq, hf⟩ := bI hf
    obtain ⟨z3, m4, hv, hf⟩ := bn2_eq hf
    have hm : n1 ≤ nF ∧ k1 ≤ kF := Mo4.use hf (Mo4.ok (by omega) (by omega))
    refine fk_callV0I (ci := 0) (rest := []) X hq rfl (c_X1_refused hv) n_X1_refused q264 q266 qs0 q122 q267 rfl dX1_season_9 rfl rfl rfl rfl rfl (by omega) (by omega) ?_
    cases hf
    exact fk_ireturn X Y dX1_season_12 rfl
/-! FigureKnee change (I)I -/
theorem n_X1_change : fk_N yX1_change 1 := ⟨by decide +kernel, by decide +kernel, by decide +kernel, by decide +kernel⟩
def f_X1_change (g : Nat → Nat) (a0 : Option Nat) (a1 : Int32) (n1 k1 : Nat) (m0 : fk_M) : Option (Int32 × Nat × Nat × fk_M) :=
  (isO m0 a0 0).bind fun u1 => (f_X1_isPair a0 a1 m0).bind fun z2 => if z2 = 0 then ((isO m0 a0 0).bind fun u3 => bn2 (f_X1_refused a0 1 m0) fun z4 m5 => some (z4, n1, k1, m5)) else ((gR m0 a0 0 6).bind fun z6 => (gR m0 z6 13 1).bind fun z7 => (aI m0 z7 1 a1).bind fun z8 => (gR m0 a0 0 5).bind fun z9 => (gI m0 z9 4 0).bind fun z10 => if (2 * z8) = z10 then ((isO m0 a0 0).bind fun u11 => bn2 (f_X1_refused a0 5 m0) fun z12 m13 => some (z12, n1, k1, m13)) else ((isO m0 a0 0).bind fun u14 => bn3 (f_X1_remembers g a0 n1 k1 m0) fun n16 k17 m15 => (gR m15 a0 0 6).bind fun z18 => (gR m15 z18 13 1).bind fun z19 => (gR m15 a0 0 5).bind fun z20 => (gI m15 z20 4 0).bind fun z21 => (gR m15 a0 0 6).bind fun z22 => (gR m15 z22 13 1).bind fun z23 => (aI m15 z23 1 a1).bind fun z24 => (sI m15 z19 1 a1 (i_b (z21 - z24))).bind fun m25 => (gR m25 a0 0 6).bind fun z26 => (gR m25 z26 13 1).bind fun z27 => (aI m25 z27 1 a1).bind fun z28 => (isO m25 a0 0).bind fun u29 => bn2 (f_X1_well a0 z28 m25) fun z30 m31 => some (z30, n16, k17, m31)))
theorem mo_X1_change (g : Nat → Nat) (a0 : Option Nat) (a1 : Int32) (n1 k1 : Nat) (m0 : fk_M) : Mo4 n1 k1 (f_X1_change g a0 a1 n1 k1 m0) := by
  unfold f_X1_change
  exact Mo4.bind (fun u1 => Mo4.bind (fun z2 => Mo4.ite (Mo4.bind (fun u3 => Mo4.bn2 (fun z4 m5 => Mo4.ok (by omega) (by omega)))) (Mo4.bind (fun z6 => Mo4.bind (fun z7 => Mo4.bind (fun z8 => Mo4.bind (fun z9 => Mo4.bind (fun z10 => Mo4.ite (Mo4.bind (fun u11 => Mo4.bn2 (fun z12 m13 => Mo4.ok (by omega) (by omega)))) (Mo4.bind (fun u14 => Mo4.bn3 (mo_X1_remembers g a0 n1 k1 m0) (fun n16 k17 m15 => Mo4.bind (fun z18 => Mo4.bind (fun z19 => Mo4.bind (fun z20 => Mo4.bind (fun z21 => Mo4.bind (fun z22 => Mo4.bind (fun z23 => Mo4.bind (fun z24 => Mo4.bind (fun m25 => Mo4.bind (fun z26 => Mo4.bind (fun z27 => Mo4.bind (fun z28 => Mo4.bind (fun u29 => Mo4.bn2 (fun z30 m31 => Mo4.ok (by omega) (by omega)))))))))))))))))))))))))
set_option maxHeartbeats 4000000 in
theorem c_X1_change {l : Launch} {G : fk_G} {b0 : Nat} {n1 k1 nF kF : Nat} {a0 : Option Nat} {a1 : Int32} {m0 : fk_M} {r : Int32} {mF : fk_M} (hf : f_X1_change G.2.2 a0 a1 n1 k1 m0 = some (r, nF, kF, mF)) : fk_Ct l G b0 yX1_change cX1_change 2 (some .int) 8 211 [tR a0, tI a1] n1 m0 (some (tI r)) nF mF (nF - n1) (kF - k1) := by
  refine fk_enter n_X1_change.1 rfl ?_
  intro E X0 Y
  have X : fk_X E l G b0 "FigureKnee" "change" cX1_change 2 8 211 (nF - n1) (kF - k1) := X0
  show fk_W E 2 n1 m0 0 0 0 [(0, tR a0), (1, tI a1)] []
  refine fk_widen (cs2 := n1 - n1) (sl2 := k1 - k1) (Nat.zero_le _) (Nat.zero_le _) ?_
  unfold f_X1_change at hf
  have h01 : n1 ≤ n1 := Nat.le_refl _
  have h02 : k1 ≤ k1 := Nat.le_refl _
  refine fk_aload_n X 0 dX1_change_0 rfl ?_
  refine fk_iload_n X 1 dX1_change_1 rfl ?_
  obtain ⟨u1, hq, hf⟩ := bI hf
  obtain ⟨z2, hv, hf⟩ := bI hf
  have hm : n1 ≤ nF ∧ k1 ≤ kF := Mo4.use hf (Mo4.ite (Mo4.bind (fun u3 => Mo4.bn2 (fun z4 m5 => Mo4.ok (by omega) (by omega)))) (Mo4.bind (fun z6 => Mo4.bind (fun z7 => Mo4.bind (fun z8 => Mo4.bind (fun z9 => Mo4.bind (fun z10 => Mo4.ite (Mo4.bind (fun u11 => Mo4.bn2 (fun z12 m13 => Mo4.ok (by omega) (by omega)))) (Mo4.bind (fun u14 => Mo4.bn3 (mo_X1_remembers G.2.2 a0 n1 k1 m0) (fun n16 k17 m15 => Mo4.bind (fun z18 => Mo4.bind (fun z19 => Mo4.bind (fun z20 => Mo4.bind (fun z21 => Mo4.bind (fun z22 => Mo4.bind (fun z23 => Mo4.bind (fun z24 => Mo4.bind (fun m25 => Mo4.bind (fun z26 => Mo4.bind (fun z27 => Mo4.bind (fun z28 => Mo4.bind (fun u29 => Mo4.bn2 (fun z30 m31 => Mo4.ok (by omega) (by omega))))))))))))))))))))))))
  refine fk_callV0I (ci := 0) (rest := []) X hq rfl (c_X1_isPair hv) n_X1_isPair q1017 q1019 qs26 q122 q1020 rfl dX1_change_2 rfl rfl rfl rfl rfl (by omega) (by omega) ?_
  refine fk_if_ne' X 14 dX1_change_5 rfl hf (fun hf => ?_) (fun hf => ?_)
  · refine fk_iconst (v := 2) X dX1_change_14 rfl ?_
    refine fk_aload_n X 0 dX1_change_15 rfl ?_
    refine fk_getR' X fd_0_6 q196 dX1_change_16 hf (fun z6 hf => ?_)
    refine fk_getR' X fd_13_1 q966 dX1_change_19 hf (fun z7 hf => ?_)
    refine fk_iload_n X 1 dX1_change_22 rfl ?_
    refine fk_baload' X dX1_change_23 hf (fun z8 hf => ?_)
    refine fk_imul X dX1_change_24 ?_
    refine fk_aload_n X 0 dX1_change_25 rfl ?_
    refine fk_getR' X fd_0_5 q195 dX1_change_26 hf (fun z9 hf => ?_)
    refine fk_getI' X fd_4_0 q300 dX1_change_29 hf (fun z10 hf => ?_)
    refine fk_icmp_ne' X 41 dX1_change_32 rfl hf (fun hf => ?_) (fun hf => ?_)
    · refine fk_aload_n X 0 dX1_change_41 rfl ?_
      obtain ⟨u14, hq, hf⟩ := bI hf
      obtain ⟨n16, k17, m15, hv, hf⟩ := bn3_eq hf
      have hmc := mo_X1_remembers G.2.2 a0 n1 k1 m0 _ _ _ hv
      have hm : n16 ≤ nF ∧ k17 ≤ kF := Mo4.use hf (Mo4.bind (fun z18 => Mo4.bind (fun z19 => Mo4.bind (fun z20 => Mo4.bind (fun z21 => Mo4.bind (fun z22 => Mo4.bind (fun z23 => Mo4.bind (fun z24 => Mo4.bind (fun m25 => Mo4.bind (fun z26 => Mo4.bind (fun z27 => Mo4.bind (fun z28 => Mo4.bind (fun u29 => Mo4.bn2 (fun z30 m31 => Mo4.ok (by omega) (by omega)))))))))))))))
      refine fk_callV1V (ci := 0) (rest := []) (cs2 := n16 - n1) (sl2 := k17 - k1) X hq rfl (c_X1_remembers hv) n_X1_remembers q1389 q1391 qs58 q122 q1392 rfl dX1_change_42 rfl rfl rfl rfl rfl (by omega) (by omega) (by omega) (by omega) ?_
      refine fk_aload_n X 0 dX1_change_45 rfl ?_
      refine fk_getR' X fd_0_6 q196 dX1_change_46 hf (fun z18 hf => ?_)
      refine fk_getR' X fd_13_1 q966 dX1_change_49 hf (fun z19 hf => ?_)
      refine fk_iload_n X 1 dX1_change_52 rfl ?_
      refine fk_aload_n X 0 dX1_change_53 rfl ?_
      refine fk_getR' X fd_0_5 q195 dX1_change_54 hf (fun z20 hf => ?_)
      refine fk_getI' X fd_4_0 q300 dX1_change_57 hf (fun z21 hf => ?_)
      refine fk_aload_n X 0 dX1_change_60 rfl ?_
      refine fk_getR' X fd_0_6 q196 dX1_change_61 hf (fun z22 hf => ?_)
      refine fk_getR' X fd_13_1 q966 dX1_change_64 hf (fun z23 hf => ?_)
      refine fk_iload_n X 1 dX1_change_67 rfl ?_
      refine fk_baload' X dX1_change_68 hf (fun z24 hf => ?_)
      refine fk_isub X dX1_change_69 ?_
      refine fk_i2b X dX1_change_70 ?_
      refine fk_bastore' X dX1_change_71 hf (fun m25 hf => ?_)
      refine fk_aload_n X 0 dX1_change_72 rfl ?_
      refine fk_aload_n X 0 dX1_change_73 rfl ?_
      refine fk_getR' X fd_0_6 q196 dX1_change_74 hf (fun z26 hf => ?_)
      refine fk_getR' X fd_13_1 q966 dX1_change_77 hf (fun z27 hf => ?_)
      refine fk_iload_n X 1 dX1_change_80 rfl ?_
      refine fk_baload' X dX1_change_81 hf (fun z28 hf => ?_)
      obtain ⟨u29, hq, hf⟩ := bI hf
      obtain ⟨z30, m31, hv, hf⟩ := bn2_eq hf
      have hm : n16 ≤ nF ∧ k17 ≤ kF := Mo4.use hf (Mo4.ok (by omega) (by omega))
      refine fk_callV0I (ci := 0) (rest := []) X hq rfl (c_X1_well hv) n_X1_well q1001 q1003 qs25 q122 q1004 rfl dX1_change_82 rfl rfl rfl rfl rfl (by omega) (by omega) ?_
      cases hf
      exact fk_ireturn X Y dX1_change_85 rfl
    · refine fk_aload_n X 0 dX1_change_35 rfl ?_
      refine fk_iconst (v := 5) X dX1_change_36 rfl ?_
      obtain ⟨u11, hq, hf⟩ := bI hf
      obtain ⟨z12, m13, hv, hf⟩ := bn2_eq hf
      have hm : n1 ≤ nF ∧ k1 ≤ kF := Mo4.use hf (Mo4.ok (by omega) (by omega))
      refine fk_callV0I (ci := 0) (rest := []) X hq rfl (c_X1_refused hv) n_X1_refused q264 q266 qs0 q122 q267 rfl dX1_change_37 rfl rfl rfl rfl rfl (by omega) (by omega) ?_
      cases hf
      exact fk_ireturn X Y dX1_change_40 rfl
  · refine fk_aload_n X 0 dX1_change_8 rfl ?_
    refine fk_iconst (v := 1) X dX1_change_9 rfl ?_
    obtain ⟨u3, hq, hf⟩ := bI hf
    obtain ⟨z4, m5, hv, hf⟩ := bn2_eq hf
    have hm : n1 ≤ nF ∧ k1 ≤ kF := Mo4.use hf (Mo4.ok (by omega) (by omega))
    refine fk_callV0I (ci := 0) (rest := []) X hq rfl (c_X1_refused hv) n_X1_refused q264 q266 qs0 q122 q267 rfl dX1_change_10 rfl rfl rfl rfl rfl (by omega) (by omega) ?_
    cases hf
    exact fk_ireturn X Y dX1_change_13 rfl
/-! FigureKnee denied (I)Z -/
theorem n_X1_denied : fk_N yX1_denied 1 := ⟨by decide +kernel, by decide +kernel, by decide +kernel, by decide +kernel⟩
def f_X1_denied (a0 : Option Nat) (a1 : Int32) (m0 : fk_M) : Option (Int32 × fk_M) :=
  (isO m0 a0 0).bind fun u1 => bn2 (f_X1_refused a0 a1 m0) fun z2 m3 => some (0, m3)
set_option maxHeartbeats 4000000 in
theorem c_X1_denied {l : Launch} {G : fk_G} {b0 : Nat} {n : Nat} {a0 : Option Nat} {a1 : Int32} {m0 : fk_M} {r : Int32} {mF : fk_M} (hf : f_X1_denied a0 a1 m0 = some (r, mF)) : fk_Ct l G b0 yX1_denied cX1_denied 2 (some .boolean) 2 81 [tR a0, tI a1] n m0 (some (tI r)) n mF 0 0 := by
  refine fk_enter n_X1_denied.1 rfl ?_
  intro E X0 Y
  have X : fk_X E l G b0 "FigureKnee" "denied" cX1_denied 2 2 81 0 0 := X0
  show fk_W E 2 n m0 0 0 0 [(0, tR a0), (1, tI a1)] []
  unfold f_X1_denied at hf
  refine fk_aload_n X 0 dX1_denied_0 rfl ?_
  refine fk_iload_n X 1 dX1_denied_1 rfl ?_
  obtain ⟨u1, hq, hf⟩ := bI hf
  obtain ⟨z2, m3, hv, hf⟩ := bn2_eq hf
  refine fk_callV0I (ci := 0) (rest := []) X hq rfl (c_X1_refused hv) n_X1_refused q264 q266 qs0 q122 q267 rfl dX1_denied_2 rfl rfl rfl rfl rfl (Nat.le_refl _) (Nat.le_refl _) ?_
  refine fk_pop X dX1_denied_5 rfl ?_
  refine fk_iconst (v := 0) X dX1_denied_6 rfl ?_
  cases hf
  exact fk_ireturn X Y dX1_denied_7 (by decide +kernel)
/-! FigureKnee granted ()Z -/
theorem n_X1_granted : fk_N yX1_granted 0 := ⟨by decide +kernel, by decide +kernel, by decide +kernel, by decide +kernel⟩
def f_X1_granted (a0 : Option Nat) (m0 : fk_M) : Option (Int32 × fk_M) :=
  (isO m0 a0 0).bind fun u1 => bn2 (f_X1_well a0 0 m0) fun z2 m3 => some (1, m3)
set_option maxHeartbeats 4000000 in
theorem c_X1_granted {l : Launch} {G : fk_G} {b0 : Nat} {n : Nat} {a0 : Option Nat} {m0 : fk_M} {r : Int32} {mF : fk_M} (hf : f_X1_granted a0 m0 = some (r, mF)) : fk_Ct l G b0 yX1_granted cX1_granted 1 (some .boolean) 2 81 [tR a0] n m0 (some (tI r)) n mF 0 0 := by
  refine fk_enter n_X1_granted.1 rfl ?_
  intro E X0 Y
  have X : fk_X E l G b0 "FigureKnee" "granted" cX1_granted 1 2 81 0 0 := X0
  show fk_W E 1 n m0 0 0 0 [(0, tR a0)] []
  unfold f_X1_granted at hf
  refine fk_aload_n X 0 dX1_granted_0 rfl ?_
  refine fk_iconst (v := 0) X dX1_granted_1 rfl ?_
  obtain ⟨u1, hq, hf⟩ := bI hf
  obtain ⟨z2, m3, hv, hf⟩ := bn2_eq hf
  refine fk_callV0I (ci := 0) (rest := []) X hq rfl (c_X1_well hv) n_X1_well q1001 q1003 qs25 q122 q1004 rfl dX1_granted_2 rfl rfl rfl rfl rfl (Nat.le_refl _) (Nat.le_refl _) ?_
  refine fk_pop X dX1_granted_5 rfl ?_
  refine fk_iconst (v := 1) X dX1_granted_6 rfl ?_
  cases hf
  exact fk_ireturn X Y dX1_granted_7 (by decide +kernel)
/-! FigureKnee step (II)Z -/
theorem n_X1_step : fk_N yX1_step 2 := ⟨by decide +kernel, by decide +kernel, by decide +kernel, by decide +kernel⟩
def f_X1_step_J33 (g : Nat → Nat) (x0 : Option Nat) (x1 : Int32) (x2 : Int32) (x3 : Int32) (n1 k1 : Nat) (m0 : fk_M) : Option (Int32 × Nat × Nat × fk_M) :=
  if x3 ≤ 0 then ((isO m0 x0 0).bind fun u1 => bn3 (f_X1_remembers g x0 n1 k1 m0) fun n3 k4 m2 => (gR m2 x0 0 6).bind fun z5 => (gR m2 z5 13 2).bind fun z6 => (sI m2 z6 1 x1 (i_b x2)).bind fun m7 => (isO m7 x0 0).bind fun u8 => bn2 (f_X1_granted x0 m7) fun z9 m10 => if z9 = 0 ∨ z9 = 1 then (some (z9, n3, k4, m10)) else none) else ((isO m0 x0 0).bind fun u11 => bn2 (f_X1_denied x0 x3 m0) fun z12 m13 => if z12 = 0 ∨ z12 = 1 then (some (z12, n1, k1, m13)) else none)
theorem mo_X1_step_J33 (g : Nat → Nat) (x0 : Option Nat) (x1 : Int32) (x2 : Int32) (x3 : Int32) (n1 k1 : Nat) (m0 : fk_M) : Mo4 n1 k1 (f_X1_step_J33 g x0 x1 x2 x3 n1 k1 m0) := by
  unfold f_X1_step_J33
  exact Mo4.ite (Mo4.bind (fun u1 => Mo4.bn3 (mo_X1_remembers g x0 n1 k1 m0) (fun n3 k4 m2 => Mo4.bind (fun z5 => Mo4.bind (fun z6 => Mo4.bind (fun m7 => Mo4.bind (fun u8 => Mo4.bn2 (fun z9 m10 => Mo4.ite (Mo4.ok (by omega) (by omega)) Mo4.no)))))))) (Mo4.bind (fun u11 => Mo4.bn2 (fun z12 m13 => Mo4.ite (Mo4.ok (by omega) (by omega)) Mo4.no)))
set_option maxHeartbeats 4000000 in
theorem w_X1_step_J33 {E : fk_E} {l : Launch} {G : fk_G} {b0 n0 k0 nF kF : Nat} {r : Int32} {mF : fk_M} (X : fk_X E l G b0 "FigureKnee" "step" cX1_step 4 8 211 (nF - n0) (kF - k0)) (Y : fk_Y E (some .boolean) (some (tI r)) nF mF (nF - n0) (kF - k0)) (x0 : Option Nat) (x1 : Int32) (x2 : Int32) (x3 : Int32)  (n1 k1 : Nat) (hn1 : n0 ≤ n1) (hk1 : k0 ≤ k1) (m0 : fk_M) (hf : f_X1_step_J33 G.2.2 x0 x1 x2 x3 n1 k1 m0 = some (r, nF, kF, mF)) : fk_W E 4 n1 m0 (n1 - n0) (k1 - k0) 33 [(0, tR x0), (1, tI x1), (2, tI x2), (3, tI x3)] [] := by
  unfold f_X1_step_J33 at hf
  refine fk_iload_n X 3 dX1_step_33 rfl ?_
  refine fk_if_le' X 43 dX1_step_34 rfl hf (fun hf => ?_) (fun hf => ?_)
  · refine fk_aload_n X 0 dX1_step_43 rfl ?_
    obtain ⟨u1, hq, hf⟩ := bI hf
    obtain ⟨n3, k4, m2, hv, hf⟩ := bn3_eq hf
    have hmc := mo_X1_remembers G.2.2 x0 n1 k1 m0 _ _ _ hv
    have hm : n3 ≤ nF ∧ k4 ≤ kF := Mo4.use hf (Mo4.bind (fun z5 => Mo4.bind (fun z6 => Mo4.bind (fun m7 => Mo4.bind (fun u8 => Mo4.bn2 (fun z9 m10 => Mo4.ite (Mo4.ok (by omega) (by omega)) Mo4.no))))))
    refine fk_callV1V (ci := 0) (rest := []) (cs2 := n3 - n0) (sl2 := k4 - k0) X hq rfl (c_X1_remembers hv) n_X1_remembers q1389 q1391 qs58 q122 q1392 rfl dX1_step_44 rfl rfl rfl rfl rfl (by omega) (by omega) (by omega) (by omega) ?_
    refine fk_aload_n X 0 dX1_step_47 rfl ?_
    refine fk_getR' X fd_0_6 q196 dX1_step_48 hf (fun z5 hf => ?_)
    refine fk_getR' X fd_13_2 q968 dX1_step_51 hf (fun z6 hf => ?_)
    refine fk_iload_n X 1 dX1_step_54 rfl ?_
    refine fk_iload_n X 2 dX1_step_55 rfl ?_
    refine fk_i2b X dX1_step_56 ?_
    refine fk_bastore' X dX1_step_57 hf (fun m7 hf => ?_)
    refine fk_aload_n X 0 dX1_step_58 rfl ?_
    obtain ⟨u8, hq, hf⟩ := bI hf
    obtain ⟨z9, m10, hv, hf⟩ := bn2_eq hf
    have hm : n3 ≤ nF ∧ k4 ≤ kF := Mo4.use hf (Mo4.ite (Mo4.ok (by omega) (by omega)) Mo4.no)
    refine fk_callV0I (ci := 0) (rest := []) X hq rfl (c_X1_granted hv) n_X1_granted q1422 q1424 qs61 q122 q1425 rfl dX1_step_59 rfl rfl rfl rfl rfl (by omega) (by omega) ?_
    by_cases hz : z9 = 0 ∨ z9 = 1
    · rw [if_pos hz] at hf
      cases hf
      exact fk_ireturn X Y dX1_step_62 (fit_Z hz).1
    · rw [if_neg hz] at hf
      cases hf
  · refine fk_aload_n X 0 dX1_step_37 rfl ?_
    refine fk_iload_n X 3 dX1_step_38 rfl ?_
    obtain ⟨u11, hq, hf⟩ := bI hf
    obtain ⟨z12, m13, hv, hf⟩ := bn2_eq hf
    have hm : n1 ≤ nF ∧ k1 ≤ kF := Mo4.use hf (Mo4.ite (Mo4.ok (by omega) (by omega)) Mo4.no)
    refine fk_callV0I (ci := 0) (rest := []) X hq rfl (c_X1_denied hv) n_X1_denied q1418 q1420 qs60 q122 q1421 rfl dX1_step_39 rfl rfl rfl rfl rfl (by omega) (by omega) ?_
    by_cases hz : z12 = 0 ∨ z12 = 1
    · rw [if_pos hz] at hf
      cases hf
      exact fk_ireturn X Y dX1_step_42 (fit_Z hz).1
    · rw [if_neg hz] at hf
      cases hf
def f_X1_step (g : Nat → Nat) (a0 : Option Nat) (a1 : Int32) (a2 : Int32) (n1 k1 : Nat) (m0 : fk_M) : Option (Int32 × Nat × Nat × fk_M) :=
  (isO m0 a0 0).bind fun u1 => (f_X1_isPair a0 a1 m0).bind fun z2 => (isO m0 a0 0).bind fun u3 => (f_X1_why a0 z2 a2 0 20 m0).bind fun z4 => if z4 = 0 then ((gR m0 a0 0 6).bind fun z5 => (gR m0 z5 13 2).bind fun z6 => (aI m0 z6 1 a1).bind fun z7 => f_X1_step_J33 g a0 a1 a2 (if z7 = a2 then (5 : Int32) else z4) n1 k1 m0) else (f_X1_step_J33 g a0 a1 a2 z4 n1 k1 m0)
theorem mo_X1_step (g : Nat → Nat) (a0 : Option Nat) (a1 : Int32) (a2 : Int32) (n1 k1 : Nat) (m0 : fk_M) : Mo4 n1 k1 (f_X1_step g a0 a1 a2 n1 k1 m0) := by
  unfold f_X1_step
  exact Mo4.bind (fun u1 => Mo4.bind (fun z2 => Mo4.bind (fun u3 => Mo4.bind (fun z4 => Mo4.ite (Mo4.bind (fun z5 => Mo4.bind (fun z6 => Mo4.bind (fun z7 => (mo_X1_step_J33 g a0 a1 a2 (if z7 = a2 then (5 : Int32) else z4) n1 k1 m0))))) ((mo_X1_step_J33 g a0 a1 a2 z4 n1 k1 m0))))))
set_option maxHeartbeats 4000000 in
theorem c_X1_step {l : Launch} {G : fk_G} {b0 : Nat} {n1 k1 nF kF : Nat} {a0 : Option Nat} {a1 : Int32} {a2 : Int32} {m0 : fk_M} {r : Int32} {mF : fk_M} (hf : f_X1_step G.2.2 a0 a1 a2 n1 k1 m0 = some (r, nF, kF, mF)) : fk_Ct l G b0 yX1_step cX1_step 4 (some .boolean) 8 211 [tR a0, tI a1, tI a2] n1 m0 (some (tI r)) nF mF (nF - n1) (kF - k1) := by
  refine fk_enter n_X1_step.1 rfl ?_
  intro E X0 Y
  have X : fk_X E l G b0 "FigureKnee" "step" cX1_step 4 8 211 (nF - n1) (kF - k1) := X0
  show fk_W E 4 n1 m0 0 0 0 [(0, tR a0), (1, tI a1), (2, tI a2)] []
  refine fk_widen (cs2 := n1 - n1) (sl2 := k1 - k1) (Nat.zero_le _) (Nat.zero_le _) ?_
  unfold f_X1_step at hf
  have h01 : n1 ≤ n1 := Nat.le_refl _
  have h02 : k1 ≤ k1 := Nat.le_refl _
  refine fk_aload_n X 0 dX1_step_0 rfl ?_
  refine fk_aload_n X 0 dX1_step_1 rfl ?_
  refine fk_iload_n X 1 dX1_step_2 rfl ?_
  obtain ⟨u1, hq, hf⟩ := bI hf
  obtain ⟨z2, hv, hf⟩ := bI hf
  have hm : n1 ≤ nF ∧ k1 ≤ kF := Mo4.use hf (Mo4.bind (fun u3 => Mo4.bind (fun z4 => Mo4.ite (Mo4.bind (fun z5 => Mo4.bind (fun z6 => Mo4.bind (fun z7 => (mo_X1_step_J33 G.2.2 a0 a1 a2 (if z7 = a2 then (5 : Int32) else z4) n1 k1 m0))))) ((mo_X1_step_J33 G.2.2 a0 a1 a2 z4 n1 k1 m0)))))
  refine fk_callV0I (ci := 0) (rest := [tR a0]) X hq rfl (c_X1_isPair hv) n_X1_isPair q1017 q1019 qs26 q122 q1020 rfl dX1_step_3 rfl rfl rfl rfl rfl (by omega) (by omega) ?_
  refine fk_iload_n X 2 dX1_step_6 rfl ?_
  refine fk_iconst (v := 0) X dX1_step_7 rfl ?_
  refine fk_bipush (v := 20) X dX1_step_8 rfl ?_
  obtain ⟨u3, hq, hf⟩ := bI hf
  obtain ⟨z4, hv, hf⟩ := bI hf
  have hm : n1 ≤ nF ∧ k1 ≤ kF := Mo4.use hf (Mo4.ite (Mo4.bind (fun z5 => Mo4.bind (fun z6 => Mo4.bind (fun z7 => (mo_X1_step_J33 G.2.2 a0 a1 a2 (if z7 = a2 then (5 : Int32) else z4) n1 k1 m0))))) ((mo_X1_step_J33 G.2.2 a0 a1 a2 z4 n1 k1 m0)))
  refine fk_callV0I (ci := 0) (rest := []) X hq rfl (c_X1_why hv) n_X1_why q1039 q1041 qs30 q122 q1042 rfl dX1_step_10 rfl rfl rfl rfl rfl (by omega) (by omega) ?_
  refine fk_istore_n X [(3, tI z4), (0, tR a0), (1, tI a1), (2, tI a2)] dX1_step_13 rfl rfl ?_
  refine fk_iload_n X 0 dX1_step_14 rfl ?_
  refine fk_if_ne' X 33 dX1_step_15 rfl hf (fun hf => ?_) (fun hf => ?_)
  · have hn : n1 ≤ n1 := by omega
    have hk : k1 ≤ k1 := by omega
    exact fk_cut' (w_X1_step_J33 X Y a0 a1 a2 z4 n1 k1 hn hk m0 hf) [1, 2, 3, 0] rfl
  · refine fk_aload_n X 1 dX1_step_18 rfl ?_
    refine fk_getR' X fd_0_6 q196 dX1_step_19 hf (fun z5 hf => ?_)
    refine fk_getR' X fd_13_2 q968 dX1_step_22 hf (fun z6 hf => ?_)
    refine fk_iload_n X 2 dX1_step_25 rfl ?_
    refine fk_baload' X dX1_step_26 hf (fun z7 hf => ?_)
    refine fk_iload_n X 3 dX1_step_27 rfl ?_
    have J1 : fk_W E 4 n1 m0 (n1 - n1) (k1 - k1) 33 [(3, tI (if z7 = a2 then (5 : Int32) else z4)), (0, tR a0), (1, tI a1), (2, tI a2)] [] := by
      have hn : n1 ≤ n1 := by omega
      have hk : k1 ≤ k1 := by omega
      exact fk_cut' (w_X1_step_J33 X Y a0 a1 a2 (if z7 = a2 then (5 : Int32) else z4) n1 k1 hn hk m0 hf) [1, 2, 3, 0] rfl
    refine fk_icmp_ne X 33 dX1_step_28 rfl (fun hc2 => ?_) (fun hc2 => ?_)
    · simp only [if_neg hc2] at J1
      exact fk_cut' J1 [0, 1, 2, 3] rfl
    · refine fk_iconst (v := 5) X dX1_step_31 rfl ?_
      refine fk_istore_n X [(3, tI 5), (0, tR a0), (1, tI a1), (2, tI a2)] dX1_step_32 rfl rfl ?_
      simp only [if_pos hc2] at J1
      exact fk_cut' J1 [0, 1, 2, 3] rfl
/-! FigureKnee pay (III)I -/
theorem n_X1_pay : fk_N yX1_pay 3 := ⟨by decide +kernel, by decide +kernel, by decide +kernel, by decide +kernel⟩
def f_X1_pay_J34 (g : Nat → Nat) (x0 : Option Nat) (x1 : Int32) (x2 : Int32) (x3 : Int32) (x4 : Int32) (n1 k1 : Nat) (m0 : fk_M) : Option (Int32 × Nat × Nat × fk_M) :=
  if x4 ≤ 0 then ((isO m0 x0 0).bind fun u1 => bn3 (f_X1_remembers g x0 n1 k1 m0) fun n3 k4 m2 => (gR m2 x0 0 6).bind fun z5 => (gR m2 z5 13 3).bind fun z6 => (aI m2 z6 2 ((5 * x1) + x2)).bind fun z7 => (sI m2 z6 2 ((5 * x1) + x2) (i_s (z7 - (i_s x3)))).bind fun m8 => (isO m8 x0 0).bind fun u9 => (f_X1_owed x0 x1 x2 m8).bind fun z10 => (isO m8 x0 0).bind fun u11 => bn2 (f_X1_well x0 z10 m8) fun z12 m13 => some (z12, n3, k4, m13)) else ((isO m0 x0 0).bind fun u14 => bn2 (f_X1_refused x0 x4 m0) fun z15 m16 => some (z15, n1, k1, m16))
theorem mo_X1_pay_J34 (g : Nat → Nat) (x0 : Option Nat) (x1 : Int32) (x2 : Int32) (x3 : Int32) (x4 : Int32) (n1 k1 : Nat) (m0 : fk_M) : Mo4 n1 k1 (f_X1_pay_J34 g x0 x1 x2 x3 x4 n1 k1 m0) := by
  unfold f_X1_pay_J34
  exact Mo4.ite (Mo4.bind (fun u1 => Mo4.bn3 (mo_X1_remembers g x0 n1 k1 m0) (fun n3 k4 m2 => Mo4.bind (fun z5 => Mo4.bind (fun z6 => Mo4.bind (fun z7 => Mo4.bind (fun m8 => Mo4.bind (fun u9 => Mo4.bind (fun z10 => Mo4.bind (fun u11 => Mo4.bn2 (fun z12 m13 => Mo4.ok (by omega) (by omega)))))))))))) (Mo4.bind (fun u14 => Mo4.bn2 (fun z15 m16 => Mo4.ok (by omega) (by omega))))
set_option maxHeartbeats 4000000 in
theorem w_X1_pay_J34 {E : fk_E} {l : Launch} {G : fk_G} {b0 n0 k0 nF kF : Nat} {r : Int32} {mF : fk_M} (X : fk_X E l G b0 "FigureKnee" "pay" cX1_pay 5 8 211 (nF - n0) (kF - k0)) (Y : fk_Y E (some .int) (some (tI r)) nF mF (nF - n0) (kF - k0)) (x0 : Option Nat) (x1 : Int32) (x2 : Int32) (x3 : Int32) (x4 : Int32)  (n1 k1 : Nat) (hn1 : n0 ≤ n1) (hk1 : k0 ≤ k1) (m0 : fk_M) (hf : f_X1_pay_J34 G.2.2 x0 x1 x2 x3 x4 n1 k1 m0 = some (r, nF, kF, mF)) : fk_W E 5 n1 m0 (n1 - n0) (k1 - k0) 34 [(0, tR x0), (1, tI x1), (2, tI x2), (3, tI x3), (4, tI x4)] [] := by
  unfold f_X1_pay_J34 at hf
  refine fk_iload X 4 dX1_pay_34 rfl ?_
  refine fk_if_le' X 46 dX1_pay_36 rfl hf (fun hf => ?_) (fun hf => ?_)
  · refine fk_aload_n X 0 dX1_pay_46 rfl ?_
    obtain ⟨u1, hq, hf⟩ := bI hf
    obtain ⟨n3, k4, m2, hv, hf⟩ := bn3_eq hf
    have hmc := mo_X1_remembers G.2.2 x0 n1 k1 m0 _ _ _ hv
    have hm : n3 ≤ nF ∧ k4 ≤ kF := Mo4.use hf (Mo4.bind (fun z5 => Mo4.bind (fun z6 => Mo4.bind (fun z7 => Mo4.bind (fun m8 => Mo4.bind (fun u9 => Mo4.bind (fun z10 => Mo4.bind (fun u11 => Mo4.bn2 (fun z12 m13 => Mo4.ok (by omega) (by omega))))))))))
    refine fk_callV1V (ci := 0) (rest := []) (cs2 := n3 - n0) (sl2 := k4 - k0) X hq rfl (c_X1_remembers hv) n_X1_remembers q1389 q1391 qs58 q122 q1392 rfl dX1_pay_47 rfl rfl rfl rfl rfl (by omega) (by omega) (by omega) (by omega) ?_
    refine fk_aload_n X 0 dX1_pay_50 rfl ?_
    refine fk_getR' X fd_0_6 q196 dX1_pay_51 hf (fun z5 hf => ?_)
    refine fk_getR' X fd_13_3 q970 dX1_pay_54 hf (fun z6 hf => ?_)
    refine fk_iconst (v := 5) X dX1_pay_57 rfl ?_
    refine fk_iload_n X 1 dX1_pay_58 rfl ?_
    refine fk_imul X dX1_pay_59 ?_
    refine fk_iload_n X 2 dX1_pay_60 rfl ?_
    refine fk_iadd X dX1_pay_61 ?_
    refine fk_dup2 X dX1_pay_62 rfl rfl ?_
    refine fk_saload' X dX1_pay_63 hf (fun z7 hf => ?_)
    refine fk_iload_n X 3 dX1_pay_64 rfl ?_
    refine fk_i2s X dX1_pay_65 ?_
    refine fk_isub X dX1_pay_66 ?_
    refine fk_i2s X dX1_pay_67 ?_
    refine fk_sastore' X dX1_pay_68 hf (fun m8 hf => ?_)
    refine fk_aload_n X 0 dX1_pay_69 rfl ?_
    refine fk_aload_n X 0 dX1_pay_70 rfl ?_
    refine fk_iload_n X 1 dX1_pay_71 rfl ?_
    refine fk_iload_n X 2 dX1_pay_72 rfl ?_
    obtain ⟨u9, hq, hf⟩ := bI hf
    obtain ⟨z10, hv, hf⟩ := bI hf
    have hm : n3 ≤ nF ∧ k4 ≤ kF := Mo4.use hf (Mo4.bind (fun u11 => Mo4.bn2 (fun z12 m13 => Mo4.ok (by omega) (by omega))))
    refine fk_callV0I (ci := 0) (rest := [tR x0]) X hq rfl (c_X1_owed hv) n_X1_owed q1249 q1251 qs45 q122 q1252 rfl dX1_pay_73 rfl rfl rfl rfl rfl (by omega) (by omega) ?_
    obtain ⟨u11, hq, hf⟩ := bI hf
    obtain ⟨z12, m13, hv, hf⟩ := bn2_eq hf
    have hm : n3 ≤ nF ∧ k4 ≤ kF := Mo4.use hf (Mo4.ok (by omega) (by omega))
    refine fk_callV0I (ci := 0) (rest := []) X hq rfl (c_X1_well hv) n_X1_well q1001 q1003 qs25 q122 q1004 rfl dX1_pay_76 rfl rfl rfl rfl rfl (by omega) (by omega) ?_
    cases hf
    exact fk_ireturn X Y dX1_pay_79 rfl
  · refine fk_aload_n X 0 dX1_pay_39 rfl ?_
    refine fk_iload X 4 dX1_pay_40 rfl ?_
    obtain ⟨u14, hq, hf⟩ := bI hf
    obtain ⟨z15, m16, hv, hf⟩ := bn2_eq hf
    have hm : n1 ≤ nF ∧ k1 ≤ kF := Mo4.use hf (Mo4.ok (by omega) (by omega))
    refine fk_callV0I (ci := 0) (rest := []) X hq rfl (c_X1_refused hv) n_X1_refused q264 q266 qs0 q122 q267 rfl dX1_pay_42 rfl rfl rfl rfl rfl (by omega) (by omega) ?_
    cases hf
    exact fk_ireturn X Y dX1_pay_45 rfl
def f_X1_pay (g : Nat → Nat) (a0 : Option Nat) (a1 : Int32) (a2 : Int32) (a3 : Int32) (n1 k1 : Nat) (m0 : fk_M) : Option (Int32 × Nat × Nat × fk_M) :=
  (isO m0 a0 0).bind fun u1 => (f_X1_areTwo a0 a1 a2 m0).bind fun z2 => (isO m0 a0 0).bind fun u3 => (f_X1_why a0 z2 a3 1 99 m0).bind fun z4 => if z4 = 0 then ((isO m0 a0 0).bind fun u5 => (f_X1_owed a0 a1 a2 m0).bind fun z6 => f_X1_pay_J34 g a0 a1 a2 a3 (if a3 ≤ z6 then z4 else 5) n1 k1 m0) else (f_X1_pay_J34 g a0 a1 a2 a3 z4 n1 k1 m0)
theorem mo_X1_pay (g : Nat → Nat) (a0 : Option Nat) (a1 : Int32) (a2 : Int32) (a3 : Int32) (n1 k1 : Nat) (m0 : fk_M) : Mo4 n1 k1 (f_X1_pay g a0 a1 a2 a3 n1 k1 m0) := by
  unfold f_X1_pay
  exact Mo4.bind (fun u1 => Mo4.bind (fun z2 => Mo4.bind (fun u3 => Mo4.bind (fun z4 => Mo4.ite (Mo4.bind (fun u5 => Mo4.bind (fun z6 => (mo_X1_pay_J34 g a0 a1 a2 a3 (if a3 ≤ z6 then z4 else 5) n1 k1 m0)))) ((mo_X1_pay_J34 g a0 a1 a2 a3 z4 n1 k1 m0))))))
set_option maxHeartbeats 4000000 in
theorem c_X1_pay {l : Launch} {G : fk_G} {b0 : Nat} {n1 k1 nF kF : Nat} {a0 : Option Nat} {a1 : Int32} {a2 : Int32} {a3 : Int32} {m0 : fk_M} {r : Int32} {mF : fk_M} (hf : f_X1_pay G.2.2 a0 a1 a2 a3 n1 k1 m0 = some (r, nF, kF, mF)) : fk_Ct l G b0 yX1_pay cX1_pay 5 (some .int) 8 211 [tR a0, tI a1, tI a2, tI a3] n1 m0 (some (tI r)) nF mF (nF - n1) (kF - k1) := by
  refine fk_enter n_X1_pay.1 rfl ?_
  intro E X0 Y
  have X : fk_X E l G b0 "FigureKnee" "pay" cX1_pay 5 8 211 (nF - n1) (kF - k1) := X0
  show fk_W E 5 n1 m0 0 0 0 [(0, tR a0), (1, tI a1), (2, tI a2), (3, tI a3)] []
  refine fk_widen (cs2 := n1 - n1) (sl2 := k1 - k1) (Nat.zero_le _) (Nat.zero_le _) ?_
  unfold f_X1_pay at hf
  have h01 : n1 ≤ n1 := Nat.le_refl _
  have h02 : k1 ≤ k1 := Nat.le_refl _
  refine fk_aload_n X 0 dX1_pay_0 rfl ?_
  refine fk_aload_n X 0 dX1_pay_1 rfl ?_
  refine fk_iload_n X 1 dX1_pay_2 rfl ?_
  refine fk_iload_n X 2 dX1_pay_3 rfl ?_
  obtain ⟨u1, hq, hf⟩ := bI hf
  obtain ⟨z2, hv, hf⟩ := bI hf
  have hm : n1 ≤ nF ∧ k1 ≤ kF := Mo4.use hf (Mo4.bind (fun u3 => Mo4.bind (fun z4 => Mo4.ite (Mo4.bind (fun u5 => Mo4.bind (fun z6 => (mo_X1_pay_J34 G.2.2 a0 a1 a2 a3 (if a3 ≤ z6 then z4 else 5) n1 k1 m0)))) ((mo_X1_pay_J34 G.2.2 a0 a1 a2 a3 z4 n1 k1 m0)))))
  refine fk_callV0I (ci := 0) (rest := [tR a0]) X hq rfl (c_X1_areTwo hv) n_X1_areTwo q1134 q1136 qs36 q122 q1137 rfl dX1_pay_4 rfl rfl rfl rfl rfl (by omega) (by omega) ?_
  refine fk_iload_n X 3 dX1_pay_7 rfl ?_
  refine fk_iconst (v := 1) X dX1_pay_8 rfl ?_
  refine fk_bipush (v := 99) X dX1_pay_9 rfl ?_
  obtain ⟨u3, hq, hf⟩ := bI hf
  obtain ⟨z4, hv, hf⟩ := bI hf
  have hm : n1 ≤ nF ∧ k1 ≤ kF := Mo4.use hf (Mo4.ite (Mo4.bind (fun u5 => Mo4.bind (fun z6 => (mo_X1_pay_J34 G.2.2 a0 a1 a2 a3 (if a3 ≤ z6 then z4 else 5) n1 k1 m0)))) ((mo_X1_pay_J34 G.2.2 a0 a1 a2 a3 z4 n1 k1 m0)))
  refine fk_callV0I (ci := 0) (rest := []) X hq rfl (c_X1_why hv) n_X1_why q1039 q1041 qs30 q122 q1042 rfl dX1_pay_11 rfl rfl rfl rfl rfl (by omega) (by omega) ?_
  refine fk_istore X [(4, tI z4), (0, tR a0), (1, tI a1), (2, tI a2), (3, tI a3)] dX1_pay_14 rfl rfl ?_
  refine fk_iload X 0 dX1_pay_16 rfl ?_
  refine fk_if_ne' X 34 dX1_pay_18 rfl hf (fun hf => ?_) (fun hf => ?_)
  · have hn : n1 ≤ n1 := by omega
    have hk : k1 ≤ k1 := by omega
    exact fk_cut' (w_X1_pay_J34 X Y a0 a1 a2 a3 z4 n1 k1 hn hk m0 hf) [1, 2, 3, 4, 0] rfl
  · refine fk_iload_n X 4 dX1_pay_21 rfl ?_
    refine fk_aload_n X 1 dX1_pay_22 rfl ?_
    refine fk_iload_n X 2 dX1_pay_23 rfl ?_
    refine fk_iload_n X 3 dX1_pay_24 rfl ?_
    obtain ⟨u5, hq, hf⟩ := bI hf
    obtain ⟨z6, hv, hf⟩ := bI hf
    have hm : n1 ≤ nF ∧ k1 ≤ kF := Mo4.use hf ((mo_X1_pay_J34 G.2.2 a0 a1 a2 a3 (if a3 ≤ z6 then z4 else 5) n1 k1 m0))
    refine fk_callV0I (ci := 0) (rest := [tI a3]) X hq rfl (c_X1_owed hv) n_X1_owed q1249 q1251 qs45 q122 q1252 rfl dX1_pay_25 rfl rfl rfl rfl rfl (by omega) (by omega) ?_
    have J1 : fk_W E 5 n1 m0 (n1 - n1) (k1 - k1) 34 [(4, tI (if a3 ≤ z6 then z4 else 5)), (0, tR a0), (1, tI a1), (2, tI a2), (3, tI a3)] [] := by
      have hn : n1 ≤ n1 := by omega
      have hk : k1 ≤ k1 := by omega
      exact fk_cut' (w_X1_pay_J34 X Y a0 a1 a2 a3 (if a3 ≤ z6 then z4 else 5) n1 k1 hn hk m0 hf) [1, 2, 3, 4, 0] rfl
    refine fk_icmp_le X 34 dX1_pay_28 rfl (fun hc2 => ?_) (fun hc2 => ?_)
    · simp only [if_pos hc2] at J1
      exact fk_cut' J1 [0, 1, 2, 3, 4] rfl
    · refine fk_iconst (v := 5) X dX1_pay_31 rfl ?_
      refine fk_istore X [(4, tI 5), (0, tR a0), (1, tI a1), (2, tI a2), (3, tI a3)] dX1_pay_32 rfl rfl ?_
      simp only [if_neg hc2] at J1
      exact fk_cut' J1 [0, 1, 2, 3, 4] rfl
/-! FigureKnee undo ()Z -/
theorem n_X1_undo : fk_N yX1_undo 0 := ⟨by decide +kernel, by decide +kernel, by decide +kernel, by decide +kernel⟩
def f_X1_undo (a0 : Option Nat) (m0 : fk_M) : Option (Int32 × fk_M) :=
  (gR m0 a0 0 7).bind fun z1 => (isO m0 z1 14).bind fun u2 => (f_J2_isEmpty z1 m0).bind fun z3 => if z3 = 0 then ((gR m0 a0 0 7).bind fun z4 => (gR m0 a0 0 7).bind fun z5 => (isO m0 z5 14).bind fun u6 => (f_J2_size z5 m0).bind fun z7 => (isO m0 z4 14).bind fun u8 => bn2 (f_J2_remove z4 (z7 - 1) m0) fun z9 m10 => (cst m10 z9 13).bind fun _ => (pV m10 a0 0 6 (tR z9)).bind fun m11 => (isO m11 a0 0).bind fun u12 => bn2 (f_X1_granted a0 m11) fun z13 m14 => if z13 = 0 ∨ z13 = 1 then (some (z13, m14)) else none) else ((isO m0 a0 0).bind fun u15 => bn2 (f_X1_denied a0 6 m0) fun z16 m17 => if z16 = 0 ∨ z16 = 1 then (some (z16, m17)) else none)
set_option maxHeartbeats 4000000 in
theorem c_X1_undo {l : Launch} {G : fk_G} {b0 : Nat} {n : Nat} {a0 : Option Nat} {m0 : fk_M} {r : Int32} {mF : fk_M} (hf : f_X1_undo a0 m0 = some (r, mF)) : fk_Ct l G b0 yX1_undo cX1_undo 1 (some .boolean) 4 126 [tR a0] n m0 (some (tI r)) n mF 0 0 := by
  refine fk_enter n_X1_undo.1 rfl ?_
  intro E X0 Y
  have X : fk_X E l G b0 "FigureKnee" "undo" cX1_undo 1 4 126 0 0 := X0
  show fk_W E 1 n m0 0 0 0 [(0, tR a0)] []
  unfold f_X1_undo at hf
  refine fk_aload_n X 0 dX1_undo_0 rfl ?_
  refine fk_getR' X fd_0_7 q197 dX1_undo_1 hf (fun z1 hf => ?_)
  obtain ⟨u2, hq, hf⟩ := bI hf
  obtain ⟨z3, hv, hf⟩ := bI hf
  refine fk_callV0I (ci := 14) (rest := []) X hq rfl (c_J2_isEmpty hv) n_J2_isEmpty q1434 q955 q956 q125 q957 rfl dX1_undo_4 rfl rfl rfl rfl rfl (Nat.le_refl _) (Nat.le_refl _) ?_
  refine fk_if_eq' X 17 dX1_undo_7 rfl hf (fun hf => ?_) (fun hf => ?_)
  · refine fk_aload_n X 0 dX1_undo_17 rfl ?_
    refine fk_aload_n X 0 dX1_undo_18 rfl ?_
    refine fk_getR' X fd_0_7 q197 dX1_undo_19 hf (fun z4 hf => ?_)
    refine fk_aload_n X 0 dX1_undo_22 rfl ?_
    refine fk_getR' X fd_0_7 q197 dX1_undo_23 hf (fun z5 hf => ?_)
    obtain ⟨u6, hq, hf⟩ := bI hf
    obtain ⟨z7, hv, hf⟩ := bI hf
    refine fk_callV0I (ci := 14) (rest := [tR z4, tR a0]) X hq rfl (c_J2_size hv) n_J2_size q1000 q699 q700 q125 q701 rfl dX1_undo_26 rfl rfl rfl rfl rfl (Nat.le_refl _) (Nat.le_refl _) ?_
    refine fk_iconst (v := 1) X dX1_undo_29 rfl ?_
    refine fk_isub X dX1_undo_30 ?_
    obtain ⟨u8, hq, hf⟩ := bI hf
    obtain ⟨z9, m10, hv, hf⟩ := bn2_eq hf
    refine fk_callV0R (ci := 14) (rest := [tR a0]) X hq rfl (c_J2_remove hv) n_J2_remove q1393 q1394 q1395 q125 q1396 rfl dX1_undo_31 rfl rfl rfl rfl rfl (Nat.le_refl _) (Nat.le_refl _) ?_
    refine fk_cast' (ci := 13) X rfl q958 dX1_undo_34 hf (fun hf => ?_)
    refine fk_putR' X fd_0_6 q196 dX1_undo_37 (fit_R _) hf (fun m11 hf => ?_)
    refine fk_aload_n X 0 dX1_undo_40 rfl ?_
    obtain ⟨u12, hq, hf⟩ := bI hf
    obtain ⟨z13, m14, hv, hf⟩ := bn2_eq hf
    refine fk_callV0I (ci := 0) (rest := []) X hq rfl (c_X1_granted hv) n_X1_granted q1422 q1424 qs61 q122 q1425 rfl dX1_undo_41 rfl rfl rfl rfl rfl (Nat.le_refl _) (Nat.le_refl _) ?_
    by_cases hz : z13 = 0 ∨ z13 = 1
    · rw [if_pos hz] at hf
      cases hf
      exact fk_ireturn X Y dX1_undo_44 (fit_Z hz).1
    · rw [if_neg hz] at hf
      cases hf
  · refine fk_aload_n X 0 dX1_undo_10 rfl ?_
    refine fk_bipush (v := 6) X dX1_undo_11 rfl ?_
    obtain ⟨u15, hq, hf⟩ := bI hf
    obtain ⟨z16, m17, hv, hf⟩ := bn2_eq hf
    refine fk_callV0I (ci := 0) (rest := []) X hq rfl (c_X1_denied hv) n_X1_denied q1418 q1420 qs60 q122 q1421 rfl dX1_undo_13 rfl rfl rfl rfl rfl (Nat.le_refl _) (Nat.le_refl _) ?_
    by_cases hz : z16 = 0 ∨ z16 = 1
    · rw [if_pos hz] at hf
      cases hf
      exact fk_ireturn X Y dX1_undo_16 (fit_Z hz).1
    · rw [if_neg hz] at hf
      cases hf
/-! FigureKnee image ()I -/
theorem n_X1_image : fk_N yX1_image 0 := ⟨by decide +kernel, by decide +kernel, by decide +kernel, by decide +kernel⟩
def f_X1_image (g : Nat → Nat) (a0 : Option Nat) (n1 k1 : Nat) (m0 : fk_M) : Option (Int32 × Nat × Nat × fk_M) :=
  (gR m0 a0 0 5).bind fun z1 => if z1 = none then ((isO m0 a0 0).bind fun u2 => bn2 (f_X1_refused a0 1 m0) fun z3 m4 => some (z3, n1, k1, m4)) else ((gR m0 a0 0 8).bind fun z5 => (isO m0 z5 14).bind fun u6 => (f_J2_size z5 m0).bind fun z7 => if z7 = 3 then ((isO m0 a0 0).bind fun u8 => bn2 (f_X1_refused a0 3 m0) fun z9 m10 => some (z9, n1, k1, m10)) else ((gR m0 a0 0 8).bind fun z11 => (gR m0 a0 0 6).bind fun z12 => (isO m0 z12 13).bind fun u13 => bn4 (f_X15_copy z12 n1 k1 m0) fun z14 n16 k17 m15 => (isO m15 z11 14).bind fun u18 => bn4 (f_J2_add g z11 z14 n16 k17 m15) fun z19 n21 k22 m20 => (gR m20 a0 0 8).bind fun z23 => (isO m20 z23 14).bind fun u24 => (f_J2_size z23 m20).bind fun z25 => (isO m20 a0 0).bind fun u26 => bn2 (f_X1_well a0 (z25 - 1) m20) fun z27 m28 => some (z27, n21, k22, m28)))
theorem mo_X1_image (g : Nat → Nat) (a0 : Option Nat) (n1 k1 : Nat) (m0 : fk_M) : Mo4 n1 k1 (f_X1_image g a0 n1 k1 m0) := by
  unfold f_X1_image
  exact Mo4.bind (fun z1 => Mo4.ite (Mo4.bind (fun u2 => Mo4.bn2 (fun z3 m4 => Mo4.ok (by omega) (by omega)))) (Mo4.bind (fun z5 => Mo4.bind (fun u6 => Mo4.bind (fun z7 => Mo4.ite (Mo4.bind (fun u8 => Mo4.bn2 (fun z9 m10 => Mo4.ok (by omega) (by omega)))) (Mo4.bind (fun z11 => Mo4.bind (fun z12 => Mo4.bind (fun u13 => Mo4.bn4 (mo_X15_copy z12 n1 k1 m0) (fun z14 n16 k17 m15 => Mo4.bind (fun u18 => Mo4.bn4 (mo_J2_add g z11 z14 n16 k17 m15) (fun z19 n21 k22 m20 => Mo4.bind (fun z23 => Mo4.bind (fun u24 => Mo4.bind (fun z25 => Mo4.bind (fun u26 => Mo4.bn2 (fun z27 m28 => Mo4.ok (by omega) (by omega))))))))))))))))))
set_option maxHeartbeats 4000000 in
theorem c_X1_image {l : Launch} {G : fk_G} {b0 : Nat} {n1 k1 nF kF : Nat} {a0 : Option Nat} {m0 : fk_M} {r : Int32} {mF : fk_M} (hf : f_X1_image G.2.2 a0 n1 k1 m0 = some (r, nF, kF, mF)) : fk_Ct l G b0 yX1_image cX1_image 1 (some .int) 7 191 [tR a0] n1 m0 (some (tI r)) nF mF (nF - n1) (kF - k1) := by
  refine fk_enter n_X1_image.1 rfl ?_
  intro E X0 Y
  have X : fk_X E l G b0 "FigureKnee" "image" cX1_image 1 7 191 (nF - n1) (kF - k1) := X0
  show fk_W E 1 n1 m0 0 0 0 [(0, tR a0)] []
  refine fk_widen (cs2 := n1 - n1) (sl2 := k1 - k1) (Nat.zero_le _) (Nat.zero_le _) ?_
  unfold f_X1_image at hf
  have h01 : n1 ≤ n1 := Nat.le_refl _
  have h02 : k1 ≤ k1 := Nat.le_refl _
  refine fk_aload_n X 0 dX1_image_0 rfl ?_
  refine fk_getR' X fd_0_5 q195 dX1_image_1 hf (fun z1 hf => ?_)
  refine fk_ifnonnull' X 13 dX1_image_4 rfl hf (fun hf => ?_) (fun hf => ?_)
  · refine fk_aload_n X 0 dX1_image_13 rfl ?_
    refine fk_getR' X fd_0_8 q198 dX1_image_14 hf (fun z5 hf => ?_)
    obtain ⟨u6, hq, hf⟩ := bI hf
    obtain ⟨z7, hv, hf⟩ := bI hf
    have hm : n1 ≤ nF ∧ k1 ≤ kF := Mo4.use hf (Mo4.ite (Mo4.bind (fun u8 => Mo4.bn2 (fun z9 m10 => Mo4.ok (by omega) (by omega)))) (Mo4.bind (fun z11 => Mo4.bind (fun z12 => Mo4.bind (fun u13 => Mo4.bn4 (mo_X15_copy z12 n1 k1 m0) (fun z14 n16 k17 m15 => Mo4.bind (fun u18 => Mo4.bn4 (mo_J2_add G.2.2 z11 z14 n16 k17 m15) (fun z19 n21 k22 m20 => Mo4.bind (fun z23 => Mo4.bind (fun u24 => Mo4.bind (fun z25 => Mo4.bind (fun u26 => Mo4.bn2 (fun z27 m28 => Mo4.ok (by omega) (by omega))))))))))))))
    refine fk_callV0I (ci := 14) (rest := []) X hq rfl (c_J2_size hv) n_J2_size q1000 q699 q700 q125 q701 rfl dX1_image_17 rfl rfl rfl rfl rfl (by omega) (by omega) ?_
    refine fk_iconst (v := 3) X dX1_image_20 rfl ?_
    refine fk_icmp_ne' X 30 dX1_image_21 rfl hf (fun hf => ?_) (fun hf => ?_)
    · refine fk_aload_n X 0 dX1_image_30 rfl ?_
      refine fk_getR' X fd_0_8 q198 dX1_image_31 hf (fun z11 hf => ?_)
      refine fk_aload_n X 0 dX1_image_34 rfl ?_
      refine fk_getR' X fd_0_6 q196 dX1_image_35 hf (fun z12 hf => ?_)
      obtain ⟨u13, hq, hf⟩ := bI hf
      obtain ⟨z14, n16, k17, m15, hv, hf⟩ := bn4_eq hf
      have hmc := mo_X15_copy z12 n1 k1 m0 _ _ _ _ hv
      have hm : n16 ≤ nF ∧ k17 ≤ kF := Mo4.use hf (Mo4.bind (fun u18 => Mo4.bn4 (mo_J2_add G.2.2 z11 z14 n16 k17 m15) (fun z19 n21 k22 m20 => Mo4.bind (fun z23 => Mo4.bind (fun u24 => Mo4.bind (fun z25 => Mo4.bind (fun u26 => Mo4.bn2 (fun z27 m28 => Mo4.ok (by omega) (by omega)))))))))
      refine fk_callV1R (ci := 13) (rest := [tR z11]) (cs2 := n16 - n1) (sl2 := k17 - k1) X hq rfl (c_X15_copy hv) n_X15_copy q1403 q1404 q1405 q150 q1406 rfl dX1_image_38 rfl rfl rfl rfl rfl (by omega) (by omega) (by omega) (by omega) ?_
      obtain ⟨u18, hq, hf⟩ := bI hf
      obtain ⟨z19, n21, k22, m20, hv, hf⟩ := bn4_eq hf
      have hmc := mo_J2_add G.2.2 z11 z14 n16 k17 m15 _ _ _ _ hv
      have hm : n21 ≤ nF ∧ k22 ≤ kF := Mo4.use hf (Mo4.bind (fun z23 => Mo4.bind (fun u24 => Mo4.bind (fun z25 => Mo4.bind (fun u26 => Mo4.bn2 (fun z27 m28 => Mo4.ok (by omega) (by omega)))))))
      refine fk_callV1I (ci := 14) (rest := []) (cs2 := n21 - n1) (sl2 := k22 - k1) X hq rfl (c_J2_add hv) n_J2_add q1402 q821 q822 q125 q823 rfl dX1_image_41 rfl rfl rfl rfl rfl (by omega) (by omega) (by omega) (by omega) ?_
      refine fk_pop X dX1_image_44 rfl ?_
      refine fk_aload_n X 0 dX1_image_45 rfl ?_
      refine fk_aload_n X 0 dX1_image_46 rfl ?_
      refine fk_getR' X fd_0_8 q198 dX1_image_47 hf (fun z23 hf => ?_)
      obtain ⟨u24, hq, hf⟩ := bI hf
      obtain ⟨z25, hv, hf⟩ := bI hf
      have hm : n21 ≤ nF ∧ k22 ≤ kF := Mo4.use hf (Mo4.bind (fun u26 => Mo4.bn2 (fun z27 m28 => Mo4.ok (by omega) (by omega))))
      refine fk_callV0I (ci := 14) (rest := [tR a0]) X hq rfl (c_J2_size hv) n_J2_size q1000 q699 q700 q125 q701 rfl dX1_image_50 rfl rfl rfl rfl rfl (by omega) (by omega) ?_
      refine fk_iconst (v := 1) X dX1_image_53 rfl ?_
      refine fk_isub X dX1_image_54 ?_
      obtain ⟨u26, hq, hf⟩ := bI hf
      obtain ⟨z27, m28, hv, hf⟩ := bn2_eq hf
      have hm : n21 ≤ nF ∧ k22 ≤ kF := Mo4.use hf (Mo4.ok (by omega) (by omega))
      refine fk_callV0I (ci := 0) (rest := []) X hq rfl (c_X1_well hv) n_X1_well q1001 q1003 qs25 q122 q1004 rfl dX1_image_55 rfl rfl rfl rfl rfl (by omega) (by omega) ?_
      cases hf
      exact fk_ireturn X Y dX1_image_58 rfl
    · refine fk_aload_n X 0 dX1_image_24 rfl ?_
      refine fk_iconst (v := 3) X dX1_image_25 rfl ?_
      obtain ⟨u8, hq, hf⟩ := bI hf
      obtain ⟨z9, m10, hv, hf⟩ := bn2_eq hf
      have hm : n1 ≤ nF ∧ k1 ≤ kF := Mo4.use hf (Mo4.ok (by omega) (by omega))
      refine fk_callV0I (ci := 0) (rest := []) X hq rfl (c_X1_refused hv) n_X1_refused q264 q266 qs0 q122 q267 rfl dX1_image_26 rfl rfl rfl rfl rfl (by omega) (by omega) ?_
      cases hf
      exact fk_ireturn X Y dX1_image_29 rfl
  · refine fk_aload_n X 0 dX1_image_7 rfl ?_
    refine fk_iconst (v := 1) X dX1_image_8 rfl ?_
    obtain ⟨u2, hq, hf⟩ := bI hf
    obtain ⟨z3, m4, hv, hf⟩ := bn2_eq hf
    have hm : n1 ≤ nF ∧ k1 ≤ kF := Mo4.use hf (Mo4.ok (by omega) (by omega))
    refine fk_callV0I (ci := 0) (rest := []) X hq rfl (c_X1_refused hv) n_X1_refused q264 q266 qs0 q122 q267 rfl dX1_image_9 rfl rfl rfl rfl rfl (by omega) (by omega) ?_
    cases hf
    exact fk_ireturn X Y dX1_image_12 rfl
/-! FigureKnee back (I)Z -/
theorem n_X1_back : fk_N yX1_back 1 := ⟨by decide +kernel, by decide +kernel, by decide +kernel, by decide +kernel⟩
def f_X1_back (a0 : Option Nat) (a1 : Int32) (n1 k1 : Nat) (m0 : fk_M) : Option (Int32 × Nat × Nat × fk_M) :=
  (gR m0 a0 0 8).bind fun z1 => (isO m0 z1 14).bind fun u2 => (f_J2_size z1 m0).bind fun z3 => (f_X1_in a1 0 (z3 - 1) m0).bind fun z4 => if z4 = 0 then ((isO m0 a0 0).bind fun u5 => bn2 (f_X1_denied a0 1 m0) fun z6 m7 => if z6 = 0 ∨ z6 = 1 then (some (z6, n1, k1, m7)) else none) else ((gR m0 a0 0 8).bind fun z8 => (isO m0 z8 14).bind fun u9 => (f_J2_get z8 a1 m0).bind fun z10 => (cst m0 z10 13).bind fun _ => (isO m0 z10 13).bind fun u11 => bn4 (f_X15_copy z10 n1 k1 m0) fun z12 n14 k15 m13 => (pV m13 a0 0 6 (tR z12)).bind fun m16 => (gR m16 a0 0 7).bind fun z17 => (isO m16 z17 14).bind fun u18 => (f_J2_clear z17 m16).bind fun m19 => (isO m19 a0 0).bind fun u20 => bn2 (f_X1_granted a0 m19) fun z21 m22 => if z21 = 0 ∨ z21 = 1 then (some (z21, n14, k15, m22)) else none)
theorem mo_X1_back (a0 : Option Nat) (a1 : Int32) (n1 k1 : Nat) (m0 : fk_M) : Mo4 n1 k1 (f_X1_back a0 a1 n1 k1 m0) := by
  unfold f_X1_back
  exact Mo4.bind (fun z1 => Mo4.bind (fun u2 => Mo4.bind (fun z3 => Mo4.bind (fun z4 => Mo4.ite (Mo4.bind (fun u5 => Mo4.bn2 (fun z6 m7 => Mo4.ite (Mo4.ok (by omega) (by omega)) Mo4.no))) (Mo4.bind (fun z8 => Mo4.bind (fun u9 => Mo4.bind (fun z10 => Mo4.bind (fun _ => Mo4.bind (fun u11 => Mo4.bn4 (mo_X15_copy z10 n1 k1 m0) (fun z12 n14 k15 m13 => Mo4.bind (fun m16 => Mo4.bind (fun z17 => Mo4.bind (fun u18 => Mo4.bind (fun m19 => Mo4.bind (fun u20 => Mo4.bn2 (fun z21 m22 => Mo4.ite (Mo4.ok (by omega) (by omega)) Mo4.no)))))))))))))))))
set_option maxHeartbeats 4000000 in
theorem c_X1_back {l : Launch} {G : fk_G} {b0 : Nat} {n1 k1 nF kF : Nat} {a0 : Option Nat} {a1 : Int32} {m0 : fk_M} {r : Int32} {mF : fk_M} (hf : f_X1_back a0 a1 n1 k1 m0 = some (r, nF, kF, mF)) : fk_Ct l G b0 yX1_back cX1_back 2 (some .boolean) 4 124 [tR a0, tI a1] n1 m0 (some (tI r)) nF mF (nF - n1) (kF - k1) := by
  refine fk_enter n_X1_back.1 rfl ?_
  intro E X0 Y
  have X : fk_X E l G b0 "FigureKnee" "back" cX1_back 2 4 124 (nF - n1) (kF - k1) := X0
  show fk_W E 2 n1 m0 0 0 0 [(0, tR a0), (1, tI a1)] []
  refine fk_widen (cs2 := n1 - n1) (sl2 := k1 - k1) (Nat.zero_le _) (Nat.zero_le _) ?_
  unfold f_X1_back at hf
  have h01 : n1 ≤ n1 := Nat.le_refl _
  have h02 : k1 ≤ k1 := Nat.le_refl _
  refine fk_iload_n X 1 dX1_back_0 rfl ?_
  refine fk_iconst (v := 0) X dX1_back_1 rfl ?_
  refine fk_aload_n X 0 dX1_back_2 rfl ?_
  refine fk_getR' X fd_0_8 q198 dX1_back_3 hf (fun z1 hf => ?_)
  obtain ⟨u2, hq, hf⟩ := bI hf
  obtain ⟨z3, hv, hf⟩ := bI hf
  have hm : n1 ≤ nF ∧ k1 ≤ kF := Mo4.use hf (Mo4.bind (fun z4 => Mo4.ite (Mo4.bind (fun u5 => Mo4.bn2 (fun z6 m7 => Mo4.ite (Mo4.ok (by omega) (by omega)) Mo4.no))) (Mo4.bind (fun z8 => Mo4.bind (fun u9 => Mo4.bind (fun z10 => Mo4.bind (fun _ => Mo4.bind (fun u11 => Mo4.bn4 (mo_X15_copy z10 n1 k1 m0) (fun z12 n14 k15 m13 => Mo4.bind (fun m16 => Mo4.bind (fun z17 => Mo4.bind (fun u18 => Mo4.bind (fun m19 => Mo4.bind (fun u20 => Mo4.bn2 (fun z21 m22 => Mo4.ite (Mo4.ok (by omega) (by omega)) Mo4.no)))))))))))))))
  refine fk_callV0I (ci := 14) (rest := [tI 0, tI a1]) X hq rfl (c_J2_size hv) n_J2_size q1000 q699 q700 q125 q701 rfl dX1_back_6 rfl rfl rfl rfl rfl (by omega) (by omega) ?_
  refine fk_iconst (v := 1) X dX1_back_9 rfl ?_
  refine fk_isub X dX1_back_10 ?_
  obtain ⟨z4, hv, hf⟩ := bI hf
  have hm : n1 ≤ nF ∧ k1 ≤ kF := Mo4.use hf (Mo4.ite (Mo4.bind (fun u5 => Mo4.bn2 (fun z6 m7 => Mo4.ite (Mo4.ok (by omega) (by omega)) Mo4.no))) (Mo4.bind (fun z8 => Mo4.bind (fun u9 => Mo4.bind (fun z10 => Mo4.bind (fun _ => Mo4.bind (fun u11 => Mo4.bn4 (mo_X15_copy z10 n1 k1 m0) (fun z12 n14 k15 m13 => Mo4.bind (fun m16 => Mo4.bind (fun z17 => Mo4.bind (fun u18 => Mo4.bind (fun m19 => Mo4.bind (fun u20 => Mo4.bn2 (fun z21 m22 => Mo4.ite (Mo4.ok (by omega) (by omega)) Mo4.no))))))))))))))
  refine fk_callS0I (rest := []) X (c_X1_in hv) n_X1_in q261 q262 q122 q263 dX1_back_11 rfl rfl rfl rfl rfl (by omega) (by omega) ?_
  refine fk_if_ne' X 23 dX1_back_14 rfl hf (fun hf => ?_) (fun hf => ?_)
  · refine fk_aload_n X 0 dX1_back_23 rfl ?_
    refine fk_aload_n X 0 dX1_back_24 rfl ?_
    refine fk_getR' X fd_0_8 q198 dX1_back_25 hf (fun z8 hf => ?_)
    refine fk_iload_n X 1 dX1_back_28 rfl ?_
    obtain ⟨u9, hq, hf⟩ := bI hf
    obtain ⟨z10, hv, hf⟩ := bI hf
    have hm : n1 ≤ nF ∧ k1 ≤ kF := Mo4.use hf (Mo4.bind (fun _ => Mo4.bind (fun u11 => Mo4.bn4 (mo_X15_copy z10 n1 k1 m0) (fun z12 n14 k15 m13 => Mo4.bind (fun m16 => Mo4.bind (fun z17 => Mo4.bind (fun u18 => Mo4.bind (fun m19 => Mo4.bind (fun u20 => Mo4.bn2 (fun z21 m22 => Mo4.ite (Mo4.ok (by omega) (by omega)) Mo4.no))))))))))
    refine fk_callV0R (ci := 14) (rest := [tR a0]) X hq rfl (c_J2_get hv) n_J2_get q1025 q723 q724 q125 q725 rfl dX1_back_29 rfl rfl rfl rfl rfl (by omega) (by omega) ?_
    refine fk_cast' (ci := 13) X rfl q958 dX1_back_32 hf (fun hf => ?_)
    obtain ⟨u11, hq, hf⟩ := bI hf
    obtain ⟨z12, n14, k15, m13, hv, hf⟩ := bn4_eq hf
    have hmc := mo_X15_copy z10 n1 k1 m0 _ _ _ _ hv
    have hm : n14 ≤ nF ∧ k15 ≤ kF := Mo4.use hf (Mo4.bind (fun m16 => Mo4.bind (fun z17 => Mo4.bind (fun u18 => Mo4.bind (fun m19 => Mo4.bind (fun u20 => Mo4.bn2 (fun z21 m22 => Mo4.ite (Mo4.ok (by omega) (by omega)) Mo4.no)))))))
    refine fk_callV1R (ci := 13) (rest := [tR a0]) (cs2 := n14 - n1) (sl2 := k15 - k1) X hq rfl (c_X15_copy hv) n_X15_copy q1403 q1404 q1405 q150 q1406 rfl dX1_back_35 rfl rfl rfl rfl rfl (by omega) (by omega) (by omega) (by omega) ?_
    refine fk_putR' X fd_0_6 q196 dX1_back_38 (fit_R _) hf (fun m16 hf => ?_)
    refine fk_aload_n X 0 dX1_back_41 rfl ?_
    refine fk_getR' X fd_0_7 q197 dX1_back_42 hf (fun z17 hf => ?_)
    obtain ⟨u18, hq, hf⟩ := bI hf
    obtain ⟨m19, hv, hf⟩ := bI hf
    have hm : n14 ≤ nF ∧ k15 ≤ kF := Mo4.use hf (Mo4.bind (fun u20 => Mo4.bn2 (fun z21 m22 => Mo4.ite (Mo4.ok (by omega) (by omega)) Mo4.no)))
    refine fk_callV0V (ci := 14) (rest := []) X hq rfl (c_J2_clear hv) n_J2_clear q992 q993 q994 q125 q995 rfl dX1_back_45 rfl rfl rfl rfl rfl (by omega) (by omega) ?_
    refine fk_aload_n X 0 dX1_back_48 rfl ?_
    obtain ⟨u20, hq, hf⟩ := bI hf
    obtain ⟨z21, m22, hv, hf⟩ := bn2_eq hf
    have hm : n14 ≤ nF ∧ k15 ≤ kF := Mo4.use hf (Mo4.ite (Mo4.ok (by omega) (by omega)) Mo4.no)
    refine fk_callV0I (ci := 0) (rest := []) X hq rfl (c_X1_granted hv) n_X1_granted q1422 q1424 qs61 q122 q1425 rfl dX1_back_49 rfl rfl rfl rfl rfl (by omega) (by omega) ?_
    by_cases hz : z21 = 0 ∨ z21 = 1
    · rw [if_pos hz] at hf
      cases hf
      exact fk_ireturn X Y dX1_back_52 (fit_Z hz).1
    · rw [if_neg hz] at hf
      cases hf
  · refine fk_aload_n X 0 dX1_back_17 rfl ?_
    refine fk_iconst (v := 1) X dX1_back_18 rfl ?_
    obtain ⟨u5, hq, hf⟩ := bI hf
    obtain ⟨z6, m7, hv, hf⟩ := bn2_eq hf
    have hm : n1 ≤ nF ∧ k1 ≤ kF := Mo4.use hf (Mo4.ite (Mo4.ok (by omega) (by omega)) Mo4.no)
    refine fk_callV0I (ci := 0) (rest := []) X hq rfl (c_X1_denied hv) n_X1_denied q1418 q1420 qs60 q122 q1421 rfl dX1_back_19 rfl rfl rfl rfl rfl (by omega) (by omega) ?_
    by_cases hz : z6 = 0 ∨ z6 = 1
    · rw [if_pos hz] at hf
      cases hf
      exact fk_ireturn X Y dX1_back_22 (fit_Z hz).1
    · rw [if_neg hz] at hf
      cases hf
/-! FigureKnee size (I)I -/
theorem n_X1_size : fk_N yX1_size 1 := ⟨by decide +kernel, by decide +kernel, by decide +kernel, by decide +kernel⟩
def f_X1_size (a0 : Option Nat) (a1 : Int32) (m : fk_M) : Option Int32 :=
  if a1 = 10 then ((gI m a0 0 1).bind fun z1 => some z1) else ((f_X1_in a1 0 9 m).bind fun z2 => if z2 = 0 then (some (-1)) else ((gR m a0 0 5).bind fun z3 => if z3 = none then (some 0) else (if a1 = 0 then ((gR m a0 0 5).bind fun z4 => (gI m z4 4 0).bind fun z5 => some z5) else (if a1 = 1 then ((gR m a0 0 5).bind fun z6 => (gI m z6 4 1).bind fun z7 => some z7) else (if a1 = 2 then ((isO m a0 0).bind fun u8 => (f_X1_pairs a0 m).bind fun z9 => some z9) else (if a1 = 3 then ((gR m a0 0 5).bind fun z10 => (gI m z10 4 2).bind fun z11 => some z11) else (if a1 = 4 then ((gR m a0 0 5).bind fun z12 => (gR m z12 4 5).bind fun z13 => (isO m z13 14).bind fun u14 => (f_J2_size z13 m).bind fun z15 => some z15) else (if a1 = 5 then ((gR m a0 0 5).bind fun z16 => (gI m z16 4 3).bind fun z17 => some z17) else (if a1 = 6 then ((gR m a0 0 5).bind fun z18 => (gR m z18 4 6).bind fun z19 => (isO m z19 14).bind fun u20 => (f_J2_size z19 m).bind fun z21 => some z21) else (if a1 = 7 then ((gR m a0 0 6).bind fun z22 => (gI m z22 13 4).bind fun z23 => some z23) else (if a1 = 8 then ((gR m a0 0 7).bind fun z24 => (isO m z24 14).bind fun u25 => (f_J2_size z24 m).bind fun z26 => some z26) else ((gR m a0 0 8).bind fun z27 => (isO m z27 14).bind fun u28 => (f_J2_size z27 m).bind fun z29 => some z29))))))))))))
set_option maxHeartbeats 4000000 in
theorem c_X1_size {l : Launch} {G : fk_G} {b0 : Nat} {n : Nat} {a0 : Option Nat} {a1 : Int32} {m : fk_M} {r : Int32} (hf : f_X1_size a0 a1 m = some r) : fk_Ct l G b0 yX1_size cX1_size 2 (some .int) 3 100 [tR a0, tI a1] n m (some (tI r)) n m 0 0 := by
  refine fk_enter n_X1_size.1 rfl ?_
  intro E X0 Y
  have X : fk_X E l G b0 "FigureKnee" "size" cX1_size 2 3 100 0 0 := X0
  show fk_W E 2 n m 0 0 0 [(0, tR a0), (1, tI a1)] []
  unfold f_X1_size at hf
  refine fk_iload_n X 1 dX1_size_0 rfl ?_
  refine fk_bipush (v := 10) X dX1_size_1 rfl ?_
  refine fk_icmp_ne' X 11 dX1_size_3 rfl hf (fun hf => ?_) (fun hf => ?_)
  · refine fk_iload_n X 1 dX1_size_11 rfl ?_
    refine fk_iconst (v := 0) X dX1_size_12 rfl ?_
    refine fk_bipush (v := 9) X dX1_size_13 rfl ?_
    obtain ⟨z2, hv, hf⟩ := bI hf
    refine fk_callS0I (rest := []) X (c_X1_in hv) n_X1_in q261 q262 q122 q263 dX1_size_15 rfl rfl rfl rfl rfl (Nat.le_refl _) (Nat.le_refl _) ?_
    refine fk_if_ne' X 23 dX1_size_18 rfl hf (fun hf => ?_) (fun hf => ?_)
    · refine fk_aload_n X 0 dX1_size_23 rfl ?_
      refine fk_getR' X fd_0_5 q195 dX1_size_24 hf (fun z3 hf => ?_)
      refine fk_ifnonnull' X 32 dX1_size_27 rfl hf (fun hf => ?_) (fun hf => ?_)
      · refine fk_iload_n X 1 dX1_size_32 rfl ?_
        by_cases hs1 : a1 = 0
        · rw [if_pos hs1] at hf
          refine fk_tableIn X 84 dX1_size_33 (by rw [hs1]; decide) (by rw [hs1]; decide) (by rw [hs1]; rfl) rfl ?_
          refine fk_aload_n X 0 dX1_size_84 rfl ?_
          refine fk_getR' X fd_0_5 q195 dX1_size_85 hf (fun z4 hf => ?_)
          refine fk_getI' X fd_4_0 q300 dX1_size_88 hf (fun z5 hf => ?_)
          cases hf
          exact fk_ireturn X Y dX1_size_91 rfl
        rw [if_neg hs1] at hf
        by_cases hs2 : a1 = 1
        · rw [if_pos hs2] at hf
          refine fk_tableIn X 92 dX1_size_33 (by rw [hs2]; decide) (by rw [hs2]; decide) (by rw [hs2]; rfl) rfl ?_
          refine fk_aload_n X 0 dX1_size_92 rfl ?_
          refine fk_getR' X fd_0_5 q195 dX1_size_93 hf (fun z6 hf => ?_)
          refine fk_getI' X fd_4_1 q302 dX1_size_96 hf (fun z7 hf => ?_)
          cases hf
          exact fk_ireturn X Y dX1_size_99 rfl
        rw [if_neg hs2] at hf
        by_cases hs3 : a1 = 2
        · rw [if_pos hs3] at hf
          refine fk_tableIn X 100 dX1_size_33 (by rw [hs3]; decide) (by rw [hs3]; decide) (by rw [hs3]; rfl) rfl ?_
          refine fk_aload_n X 0 dX1_size_100 rfl ?_
          obtain ⟨u8, hq, hf⟩ := bI hf
          obtain ⟨z9, hv, hf⟩ := bI hf
          refine fk_callV0I (ci := 0) (rest := []) X hq rfl (c_X1_pairs hv) n_X1_pairs q996 q998 qs24 q122 q999 rfl dX1_size_101 rfl rfl rfl rfl rfl (Nat.le_refl _) (Nat.le_refl _) ?_
          cases hf
          exact fk_ireturn X Y dX1_size_104 rfl
        rw [if_neg hs3] at hf
        by_cases hs4 : a1 = 3
        · rw [if_pos hs4] at hf
          refine fk_tableIn X 105 dX1_size_33 (by rw [hs4]; decide) (by rw [hs4]; decide) (by rw [hs4]; rfl) rfl ?_
          refine fk_aload_n X 0 dX1_size_105 rfl ?_
          refine fk_getR' X fd_0_5 q195 dX1_size_106 hf (fun z10 hf => ?_)
          refine fk_getI' X fd_4_2 q304 dX1_size_109 hf (fun z11 hf => ?_)
          cases hf
          exact fk_ireturn X Y dX1_size_112 rfl
        rw [if_neg hs4] at hf
        by_cases hs5 : a1 = 4
        · rw [if_pos hs5] at hf
          refine fk_tableIn X 113 dX1_size_33 (by rw [hs5]; decide) (by rw [hs5]; decide) (by rw [hs5]; rfl) rfl ?_
          refine fk_aload_n X 0 dX1_size_113 rfl ?_
          refine fk_getR' X fd_0_5 q195 dX1_size_114 hf (fun z12 hf => ?_)
          refine fk_getR' X fd_4_5 q314 dX1_size_117 hf (fun z13 hf => ?_)
          obtain ⟨u14, hq, hf⟩ := bI hf
          obtain ⟨z15, hv, hf⟩ := bI hf
          refine fk_callV0I (ci := 14) (rest := []) X hq rfl (c_J2_size hv) n_J2_size q1000 q699 q700 q125 q701 rfl dX1_size_120 rfl rfl rfl rfl rfl (Nat.le_refl _) (Nat.le_refl _) ?_
          cases hf
          exact fk_ireturn X Y dX1_size_123 rfl
        rw [if_neg hs5] at hf
        by_cases hs6 : a1 = 5
        · rw [if_pos hs6] at hf
          refine fk_tableIn X 124 dX1_size_33 (by rw [hs6]; decide) (by rw [hs6]; decide) (by rw [hs6]; rfl) rfl ?_
          refine fk_aload_n X 0 dX1_size_124 rfl ?_
          refine fk_getR' X fd_0_5 q195 dX1_size_125 hf (fun z16 hf => ?_)
          refine fk_getI' X fd_4_3 q306 dX1_size_128 hf (fun z17 hf => ?_)
          cases hf
          exact fk_ireturn X Y dX1_size_131 rfl
        rw [if_neg hs6] at hf
        by_cases hs7 : a1 = 6
        · rw [if_pos hs7] at hf
          refine fk_tableIn X 132 dX1_size_33 (by rw [hs7]; decide) (by rw [hs7]; decide) (by rw [hs7]; rfl) rfl ?_
          refine fk_aload_n X 0 dX1_size_132 rfl ?_
          refine fk_getR' X fd_0_5 q195 dX1_size_133 hf (fun z18 hf => ?_)
          refine fk_getR' X fd_4_6 q317 dX1_size_136 hf (fun z19 hf => ?_)
          obtain ⟨u20, hq, hf⟩ := bI hf
          obtain ⟨z21, hv, hf⟩ := bI hf
          refine fk_callV0I (ci := 14) (rest := []) X hq rfl (c_J2_size hv) n_J2_size q1000 q699 q700 q125 q701 rfl dX1_size_139 rfl rfl rfl rfl rfl (Nat.le_refl _) (Nat.le_refl _) ?_
          cases hf
          exact fk_ireturn X Y dX1_size_142 rfl
        rw [if_neg hs7] at hf
        by_cases hs8 : a1 = 7
        · rw [if_pos hs8] at hf
          refine fk_tableIn X 143 dX1_size_33 (by rw [hs8]; decide) (by rw [hs8]; decide) (by rw [hs8]; rfl) rfl ?_
          refine fk_aload_n X 0 dX1_size_143 rfl ?_
          refine fk_getR' X fd_0_6 q196 dX1_size_144 hf (fun z22 hf => ?_)
          refine fk_getI' X fd_13_4 q972 dX1_size_147 hf (fun z23 hf => ?_)
          cases hf
          exact fk_ireturn X Y dX1_size_150 rfl
        rw [if_neg hs8] at hf
        by_cases hs9 : a1 = 8
        · rw [if_pos hs9] at hf
          refine fk_tableIn X 151 dX1_size_33 (by rw [hs9]; decide) (by rw [hs9]; decide) (by rw [hs9]; rfl) rfl ?_
          refine fk_aload_n X 0 dX1_size_151 rfl ?_
          refine fk_getR' X fd_0_7 q197 dX1_size_152 hf (fun z24 hf => ?_)
          obtain ⟨u25, hq, hf⟩ := bI hf
          obtain ⟨z26, hv, hf⟩ := bI hf
          refine fk_callV0I (ci := 14) (rest := []) X hq rfl (c_J2_size hv) n_J2_size q1000 q699 q700 q125 q701 rfl dX1_size_155 rfl rfl rfl rfl rfl (Nat.le_refl _) (Nat.le_refl _) ?_
          cases hf
          exact fk_ireturn X Y dX1_size_158 rfl
        rw [if_neg hs9] at hf
        refine fk_tableOut X 159 dX1_size_33 (by have e0 := lv_neT hs1 (show (0 : Int32).toInt = 0 from by decide); have e1 := lv_neT hs2 (show (1 : Int32).toInt = 1 from by decide); have e2 := lv_neT hs3 (show (2 : Int32).toInt = 2 from by decide); have e3 := lv_neT hs4 (show (3 : Int32).toInt = 3 from by decide); have e4 := lv_neT hs5 (show (4 : Int32).toInt = 4 from by decide); have e5 := lv_neT hs6 (show (5 : Int32).toInt = 5 from by decide); have e6 := lv_neT hs7 (show (6 : Int32).toInt = 6 from by decide); have e7 := lv_neT hs8 (show (7 : Int32).toInt = 7 from by decide); have e8 := lv_neT hs9 (show (8 : Int32).toInt = 8 from by decide); omega) rfl ?_
        refine fk_aload_n X 0 dX1_size_159 rfl ?_
        refine fk_getR' X fd_0_8 q198 dX1_size_160 hf (fun z27 hf => ?_)
        obtain ⟨u28, hq, hf⟩ := bI hf
        obtain ⟨z29, hv, hf⟩ := bI hf
        refine fk_callV0I (ci := 14) (rest := []) X hq rfl (c_J2_size hv) n_J2_size q1000 q699 q700 q125 q701 rfl dX1_size_163 rfl rfl rfl rfl rfl (Nat.le_refl _) (Nat.le_refl _) ?_
        cases hf
        exact fk_ireturn X Y dX1_size_166 rfl
      · refine fk_iconst (v := 0) X dX1_size_30 rfl ?_
        cases hf
        exact fk_ireturn X Y dX1_size_31 rfl
    · refine fk_iconst (v := (-1)) X dX1_size_21 rfl ?_
      cases hf
      exact fk_ireturn X Y dX1_size_22 rfl
  · refine fk_aload_n X 0 dX1_size_6 rfl ?_
    refine fk_getI' X fd_0_1 q191 dX1_size_7 hf (fun z1 hf => ?_)
    cases hf
    exact fk_ireturn X Y dX1_size_10 rfl
/-! FigureKnee trouble ()I -/
theorem n_X1_trouble : fk_N yX1_trouble 0 := ⟨by decide +kernel, by decide +kernel, by decide +kernel, by decide +kernel⟩
def f_X1_trouble (a0 : Option Nat) (m : fk_M) : Option Int32 :=
  (gI m a0 0 4).bind fun z1 => some z1
set_option maxHeartbeats 4000000 in
theorem c_X1_trouble {l : Launch} {G : fk_G} {b0 : Nat} {n : Nat} {a0 : Option Nat} {m : fk_M} {r : Int32} (hf : f_X1_trouble a0 m = some r) : fk_Ct l G b0 yX1_trouble cX1_trouble 1 (some .int) 1 60 [tR a0] n m (some (tI r)) n m 0 0 := by
  refine fk_enter n_X1_trouble.1 rfl ?_
  intro E X0 Y
  have X : fk_X E l G b0 "FigureKnee" "trouble" cX1_trouble 1 1 60 0 0 := X0
  show fk_W E 1 n m 0 0 0 [(0, tR a0)] []
  unfold f_X1_trouble at hf
  refine fk_aload_n X 0 dX1_trouble_0 rfl ?_
  refine fk_getI' X fd_0_4 q194 dX1_trouble_1 hf (fun z1 hf => ?_)
  cases hf
  exact fk_ireturn X Y dX1_trouble_4 rfl
